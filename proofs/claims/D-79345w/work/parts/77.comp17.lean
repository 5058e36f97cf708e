/-! the proof of a conflict -/
set_option maxRecDepth 100000
theorem hd_X10_proof : jv_dd yX10_proof 0 := by unfold jv_dd; decide +kernel
set_option maxHeartbeats 4000000 in
theorem c_X10_proof {l : Launch} {G : jv_G} {M : jv_M} {σ : jk_A} (hG : jk_G G σ) {B : jv_M} {τ : Nat → Nat} {b t : Nat} {S : Nat → Nat} {T : t_T2} (hB : jbd G B τ b S) (hS : wfS S) (hL : wfL S) (hPP : wfP S) (hT : jtr G σ B M S b t T) (hk : okT T) (hwT : wfT S T)   : jv_Ct G l yX10_proof cX10_proof 1 (some .long) 57 0 0 1399 [.ref t] M (jv_ql G (jv_pl (lN (prT S T)) M)) := by
  refine jv_Ct.of (lv := [(0, .ref t)]) (by decide) (Nat.le_of_ble_eq_true rfl) rfl ?_
  intro x Q_ hl_ hQ X
  subst hl_
  have hT_ := hT
  have hB0 := hB
  obtain ⟨ma, le, sl, N, e, mc, gm, gl, f, V, ⟨ht, hft, hnt⟩, ⟨hma, hfma, hnma, hgm⟩, ⟨hle, hfle, hnle, hgl⟩, hml, ⟨hdl, hnsl, hne⟩, hV, hag⟩ := hT
  obtain ⟨hsl, hfsl, hnN, hN60, hdl4⟩ := id hdl
  have hn36 := hk.1
  refine jv_aload_n X dX10_proof_0 0 rfl ?_
  refine jv_ask (jv_runV (As := []) (rest := []) X dX10_proof_1 (c_X10_isConflict hG hB0 hS hL hPP hT_ hk hwT) (lw_V q1058 q1059 q1060 q115 q1061) hd_X10_isConflict ht rfl (Nat.le_of_ble_eq_true rfl) (Nat.le_of_ble_eq_true rfl) (Nat.le_of_ble_eq_true rfl) (Nat.le_of_ble_eq_true rfl) rfl (Nat.le_of_ble_eq_true rfl)) ?_
  refine jb_if_eq 25 X dX10_proof_4 (by decide) (fun c4 => ?_) (fun c4 => ?_)
  · skip
    have g_ := cf_f c4
    refine jv_lconst (v := lN 0) X dX10_proof_25 rfl ?_
    exact jv_lret X dX10_proof_26 hQ (Nat.le_of_ble_eq_true rfl) (Nat.le_of_ble_eq_true rfl) ⟨(congrArg lN (show 0 = prT S T by unfold prT; rw [if_pos g_])), rfl⟩
  · skip
    have g_ := cf_t c4
    have h6_ := hk.2.2
    refine jv_aload_n X dX10_proof_7 0 rfl ?_
    refine jv_aload_n X dX10_proof_8 0 rfl ?_
    refine jv_iconst (v := nI 1) X dX10_proof_9 rfl ?_
    refine jv_aload_n X dX10_proof_10 0 rfl ?_
    refine jv_get X dX10_proof_11 ht (T := TX10) (N := 5) (C := RX10) rfl in_X10 4 (by decide) q903 rfl rfl ?_
    rw [show cfI (tc T) = nI (tc T) from if_neg g_]
    refine jv_ishl (w := nI (2 ^ (tc T))) X dX10_proof_14 (ni_shl1 (by omega)) ?_
    refine jv_askl (jv_runV (As := [.int (nI (2 ^ (tc T)))]) (rest := [.ref t]) X dX10_proof_15 (c_X10_stepsFor hG hB0 hS hL hPP hT_ hk hwT (2 ^ (tc T)) (Nat.pow_lt_pow_right (by decide) (by omega))) (lw_V q971 q973 qs22 q115 q974) hd_X10_stepsFor ht rfl (Nat.le_of_ble_eq_true rfl) (Nat.le_of_ble_eq_true rfl) (Nat.le_of_ble_eq_true rfl) (Nat.le_of_ble_eq_true rfl) rfl (Nat.le_of_ble_eq_true rfl)) ?_
    refine jv_lconst (v := lN 0) X dX10_proof_18 rfl ?_
    refine jv_askl (jv_runV (As := [.long (lN (sfN T (2 ^ (tc T)) (tn T))), .long (lN 0)]) (rest := []) X dX10_proof_19 (c_X10_gathers hG hB0 hS hL hPP hT_ hk hwT (tn T) (sfN T (2 ^ (tc T)) (tn T)) 0 (gok.t0 (S := S) _)) (lw_V q1062 q1064 qs23 q115 q1065) hd_X10_gathers ht rfl (by omega) (by omega) (Nat.le_of_ble_eq_true rfl) (Nat.le_of_ble_eq_true rfl) rfl (Nat.le_of_ble_eq_true rfl)) ?_
    refine jv_goto 26 X dX10_proof_22 (by decide) ?_
    exact jv_lret X dX10_proof_26 hQ (Nat.le_of_ble_eq_true rfl) (Nat.le_of_ble_eq_true rfl) ⟨(congrArg lN (gth_prT hk g_ (fun k hk2 => Nat.lt_of_lt_of_le (hwT k hk2).2.1 hS.1.p))), rfl⟩
theorem hd_X0_proof : jv_dd yX0_proof 0 := by unfold jv_dd; decide +kernel
set_option maxHeartbeats 4000000 in
theorem c_X0_proof {l : Launch} {G : jv_G} {M : jv_M} {σ : jk_A} (hG : jk_G G σ) {τ : Nat → Nat} {xa b pa ip rp : Nat} {sv : Option Nat} {eA_ fA_ : Int32} {S : Nat → Nat} (hx : M xa = some (.inr (0, [.ref b, .ref pa, .ref ip, .ref rp, va_rf sv,   .int eA_, .int fA_]))) (hB : jbd G M τ b S) (hS : wfS S) (hL : wfL S) (hPP : wfP S)   : jv_Ct G l yX0_proof cX0_proof 1 (some .long) 58 376 3248 1419 [.ref xa] M (jv_ql G (jv_pl (lN (m_proof S)) M)) := by
  refine jv_Ct.of (lv := [(0, .ref xa)]) (by decide) (Nat.le_of_ble_eq_true rfl) rfl ?_
  intro x Q_ hl_ hQ X
  subst hl_
  have hB_ := hB
  obtain ⟨lp, lr, la, P, R, A, hb, hfb, ⟨⟨mp_, ep, fp, hlp, hep, hn6, hfp, -, -, -⟩, hP⟩, ⟨⟨mr_, er, fr_, hlr, her, hn30, hfr_, -, -, -⟩, hR⟩, ⟨ma_, ea, fa, hla, hea, hn6a, hfa, -, -, -⟩, hA⟩ := hB
  have hW := hS.1
  have hp0 := hW.p
  have hr0 := hW.r
  have ha0 := hW.a
  refine jv_aload_n X dX0_proof_0 0 rfl ?_
  refine jv_callr (jv_runV (As := []) (rest := []) X dX0_proof_1 (c_X0_traced hG hx hB_ hS hL hPP) (lw_V q848 q850 qs18 q90 q851) hd_X0_traced hx rfl (Nat.le_of_ble_eq_true rfl) (Nat.le_of_ble_eq_true rfl) (by omega) (by omega) rfl (Nat.le_of_ble_eq_true rfl)) (fun t1 M1 hT1 => ?_)
  obtain ⟨ma1, le1, sl1, N1, e1, mc1, gm1, gl1, f1, V1, ⟨ht1, hft1, hnt1⟩, ⟨hma1, hfma1, hnma1, hgm1⟩, ⟨hle1, hfle1, hnle1, hgl1⟩, hml1, ⟨hdl1, hnsl1, hne1⟩, hV1, hag1⟩ := id hT1
  obtain ⟨hsl1, hfsl1, hnN1, hN601, hdl41⟩ := id hdl1
  have hk36_ := (okT.ga hW).1
  refine jv_askl (jv_runV (As := []) (rest := []) X dX0_proof_4 (c_X10_proof hG hB_ hS hL hPP hT1 (okT.ga hW) (wfT.ga hS)) (lw_V q1054 q1055 q1056 q115 q1057) hd_X10_proof ht1 rfl (Nat.le_of_ble_eq_true rfl) (Nat.le_of_ble_eq_true rfl) (by omega) (by omega) rfl (Nat.le_of_ble_eq_true rfl)) ?_
  refine jv_fewer (jag.few hag1) ?_
  exact jv_lret X dX0_proof_7 hQ (Nat.le_of_ble_eq_true rfl) (Nat.le_of_ble_eq_true rfl) ⟨rfl, rfl⟩
theorem hd_X10_impossibleBy : jv_dd yX10_impossibleBy 2 := by unfold jv_dd; decide +kernel
set_option maxHeartbeats 4000000 in
theorem c_X10_impossibleBy {l : Launch} {G : jv_G} {M : jv_M} {σ : jk_A} (hG : jk_G G σ) {τ : Nat → Nat} {b t ma le sl : Nat} {cf_ : Int32} {gm : Nat → Int32} {S : Nat → Nat} (hB : jbd G M τ b S) (hS : wfS S) (hL : wfL S) (hPP : wfP S) (ht : M t = some (.inr (8, [.ref b, .ref ma, .ref le, .ref sl, .int cf_]))) (hma : M ma = some (.inl (G.2.2.1 0, S 1, .inl gm))) (hgm : ∀ k, k < S 1 → gm k = nI (msk S k)) {T : t_T2} {i a : Nat} (ha : jst M S T i a) (hwi : (tb T i < S 1 ∨ (100 ≤ tb T i ∧ tb T i < 106)) ∧ tp T i < S 0 ∧ tg T i < 64) (hji : jrl S T i) {h1 : Nat} {fl : Nat → Int32} {c : Nat → Nat} (hh : M h1 = some (.inl (G.2.2.1 0, 6, .inl fl))) (hc : ∀ p, p < 6 → fl p = nI (c p)) (hc6 : ∀ p, p < 6 → c p < 64)    : jv_Ct G l yX10_impossibleBy cX10_impossibleBy 3 (some .int) 8 0 0 260 [.ref t, .ref a, .ref h1] M (jv_qi G (jv_pi (jE S T c i) M)) := by
  refine jv_Ct.of (lv := [(0, .ref t), (1, .ref a), (2, .ref h1)]) (by decide) (Nat.le_of_ble_eq_true rfl) rfl ?_
  intro x Q_ hl_ hQ X
  subst hl_
  have hB_ := hB
  obtain ⟨lp, lr, la, P, R, A, hb, hfb, ⟨⟨mp_, ep, fp, hlp, hep, hn6, hfp, -, -, -⟩, hP⟩, ⟨⟨mr_, er, fr_, hlr, her, hn30, hfr_, -, -, -⟩, hR⟩, ⟨ma_, ea, fa, hla, hea, hn6a, hfa, -, -, -⟩, hA⟩ := hB
  have hW := hS.1
  have hp0 := hW.p
  have hr0 := hW.r
  have ha0 := hW.a
  refine jv_aload_n X dX10_impossibleBy_0 1 rfl ?_
  refine jv_getN X dX10_impossibleBy_1 ha (T := TX11) (N := 4) (C := RX11) rfl in_X11 0 (by decide) q983 rfl rfl ?_
  refine jv_bipush (v := nI 100) X dX10_impossibleBy_4 rfl ?_
  refine jn_icmp_lt 37 X dX10_impossibleBy_6 (by decide) (by omega) (by decide) (fun c6 => ?_) (fun c6 => ?_)
  · skip
    have hr2_ : tb T i < S 1 := hwi.1.resolve_right (by omega)
    refine jv_aload_n X dX10_impossibleBy_37 0 rfl ?_
    refine jv_get X dX10_impossibleBy_38 ht (T := TX10) (N := 5) (C := RX10) rfl in_X10 0 (by decide) q893 rfl rfl ?_
    refine jv_getN X dX10_impossibleBy_41 hb (T := TX1) (N := 3) (C := RX1) rfl in_X1 1 (by decide) q186 rfl rfl ?_
    refine jv_aload_n X dX10_impossibleBy_44 1 rfl ?_
    refine jv_getN X dX10_impossibleBy_45 ha (T := TX11) (N := 4) (C := RX11) rfl in_X11 0 (by decide) q983 rfl rfl ?_
    refine jv_callr (jv_runV (As := [.int (nI (tb T i))]) (rest := []) X dX10_impossibleBy_48 (c_J2_get hlr her (tb T i) (R (tb T i)) (by omega) (by omega) (by omega) (by rw [hfr_ _ (by omega)]; rfl)) (lw_V q887 q533 q534 q94 q535) hd_J2_get hlr rfl (Nat.le_of_ble_eq_true rfl) (Nat.le_of_ble_eq_true rfl) (Nat.le_of_ble_eq_true rfl) (Nat.le_of_ble_eq_true rfl) rfl (Nat.le_of_ble_eq_true rfl)) (fun rr_ M_ h_ => ?_)
    obtain ⟨hr_, hm_⟩ := h_
    rw [hr_, hm_]
    clear hr_ hm_
    refine jr_cast X dX10_impossibleBy_51 q932 (hR (tb T i) (by omega)) ?_
    refine jv_aload_n X dX10_impossibleBy_54 0 rfl ?_
    refine jv_get X dX10_impossibleBy_55 ht (T := TX10) (N := 5) (C := RX10) rfl in_X10 1 (by decide) q894 rfl rfl ?_
    refine jv_aload_n X dX10_impossibleBy_58 1 rfl ?_
    refine jv_getN X dX10_impossibleBy_59 ha (T := TX11) (N := 4) (C := RX11) rfl in_X11 0 (by decide) q983 rfl rfl ?_
    refine jv_iald (v := nI (msk S (tb T i))) X dX10_impossibleBy_62 hma (jn_in (by omega) (by omega)) (by rw [nI_clamp (by omega)]; exact (hgm _ (by omega))) ?_
    refine jv_aload_n X dX10_impossibleBy_63 2 rfl ?_
    refine jv_aload_n X dX10_impossibleBy_64 1 rfl ?_
    refine jv_getN X dX10_impossibleBy_65 ha (T := TX11) (N := 4) (C := RX11) rfl in_X11 1 (by decide) q986 rfl rfl ?_
    refine jv_ask (jr_impossible (rest := []) X dX10_impossibleBy_68 q1087 (hR (tb T i) (by omega)) hW (by omega) hh hc hc6 (tp T i) (by omega) (hji.1 (by omega)) (Nat.le_of_ble_eq_true rfl) (Nat.le_of_ble_eq_true rfl) (Nat.le_of_ble_eq_true rfl) (Nat.le_of_ble_eq_true rfl) (Nat.le_of_ble_eq_true rfl)) ?_
    exact jv_iret (v := imp S (tb T i) c (tp T i)) X dX10_impossibleBy_71 rfl hQ (Nat.le_of_ble_eq_true rfl) (Nat.le_of_ble_eq_true rfl) ⟨(by unfold jE; rw [if_neg (by omega)]), rfl⟩
  · skip
    have hi2_ := hji.2 (by omega)
    refine jv_iconst (v := nI 1) X dX10_impossibleBy_9 rfl ?_
    refine jv_aload_n X dX10_impossibleBy_10 0 rfl ?_
    refine jv_get X dX10_impossibleBy_11 ht (T := TX10) (N := 5) (C := RX10) rfl in_X10 0 (by decide) q893 rfl rfl ?_
    refine jv_getN X dX10_impossibleBy_14 hb (T := TX1) (N := 3) (C := RX1) rfl in_X1 2 (by decide) q192 rfl rfl ?_
    refine jv_aload_n X dX10_impossibleBy_17 1 rfl ?_
    refine jv_getN X dX10_impossibleBy_18 ha (T := TX11) (N := 4) (C := RX11) rfl in_X11 0 (by decide) q983 rfl rfl ?_
    refine jv_bipush (v := nI 100) X dX10_impossibleBy_21 rfl ?_
    refine jv_isub (w := nI ((tb T i) - 100)) X dX10_impossibleBy_23 (pk_sub (by omega)) ?_
    refine jv_callr (jv_runV (As := [.int (nI ((tb T i) - 100))]) (rest := [.int (nI 1)]) X dX10_impossibleBy_24 (c_J2_get hla hea ((tb T i) - 100) (A ((tb T i) - 100)) (by omega) (by omega) (by omega) (by rw [hfa _ (by omega)]; rfl)) (lw_V q887 q533 q534 q94 q535) hd_J2_get hla rfl (Nat.le_of_ble_eq_true rfl) (Nat.le_of_ble_eq_true rfl) (Nat.le_of_ble_eq_true rfl) (Nat.le_of_ble_eq_true rfl) rfl (Nat.le_of_ble_eq_true rfl)) (fun rr_ M_ h_ => ?_)
    obtain ⟨hr_, hm_⟩ := h_
    rw [hr_, hm_]
    clear hr_ hm_
    refine jv_castS X dX10_impossibleBy_27 (hA ((tb T i) - 100) (by omega)).2 (r := (RX12, TX12, 2)) rfl q1017 ?_
    refine jv_getN X dX10_impossibleBy_30 (hA ((tb T i) - 100) (by omega)).2 (T := TX12) (N := 2) (C := RX12) rfl in_X12 1 (by decide) q1121 rfl rfl ?_
    refine jv_ishl (w := nI (2 ^ (v_asm S ((tb T i) - 100) 1))) X dX10_impossibleBy_33 (ni_shl1 (by have := hW.a1 (show tb T i - 100 < 6 by omega); omega)) ?_
    refine jv_iconst (v := (-1)) X dX10_impossibleBy_34 rfl ?_
    refine jv_ixor (w := (nI (2 ^ (v_asm S ((tb T i) - 100) 1))) ^^^ (-1)) X dX10_impossibleBy_35 rfl ?_
    exact jv_iret (v := (nI (2 ^ (v_asm S ((tb T i) - 100) 1))) ^^^ (-1)) X dX10_impossibleBy_36 rfl hQ (Nat.le_of_ble_eq_true rfl) (Nat.le_of_ble_eq_true rfl) ⟨(by unfold jE; rw [if_pos (by omega)]), rfl⟩
theorem jtr.new {G : jv_G} {σ : jk_A} {B M : jv_M} {S : Nat → Nat} {b t q : Nat} {T : t_T2} {c : va_E} (h : jtr G σ B M S b t T) (hq : M q = none) : jtr G σ B (jv_up M q c) S b t T := by
  obtain ⟨ma, le, sl, N, e, mc, gm, gl, f, V, ⟨ht, hft, hnt⟩, ⟨hma, hfma, hnma, hgm⟩, ⟨hle, hfle, hnle, hgl⟩, hml, ⟨hdl, hnsl, hne⟩, hV, hag⟩ := h
  have u : ∀ {a : Nat} {d : va_E}, M a = some d → jv_up M q c a = some d := fun h => (jv_up_n (new_ne hq h)).trans h
  exact ⟨ma, le, sl, N, e, mc, gm, gl, f, V, ⟨u ht, hft, hnt⟩, ⟨u hma, hfma, hnma, hgm⟩, ⟨u hle, hfle, hnle, hgl⟩, hml, ⟨hdl.new hq, hnsl, hne⟩, fun i hi => ⟨(hV i hi).1, u (hV i hi).2⟩, jag.new hag hq⟩
theorem hd_X10_isProved : jv_dd yX10_isProved 0 := by unfold jv_dd; decide +kernel
set_option maxHeartbeats 4000000 in
theorem c_X10_isProved {l : Launch} {G : jv_G} {M : jv_M} {σ : jk_A} (hG : jk_G G σ) {B : jv_M} {τ : Nat → Nat} {b t : Nat} {S : Nat → Nat} {T : t_T2} (hB : jbd G B τ b S) (hS : wfS S) (hL : wfL S) (hPP : wfP S) (hT : jtr G σ B M S b t T) (hk : okT T) (hwT : wfT S T)  (hh : hst S T) : jv_Ct G l yX10_isProved cX10_isProved 6 (some .boolean) 58 1 6 1419 [.ref t] M (jv_qi G (jv_pi (bI (!decide (tc T = 6))) M)) := by
  refine jv_Ct.of (lv := [(0, .ref t)]) (by decide) (Nat.le_of_ble_eq_true rfl) rfl ?_
  intro x Q_ hl_ hQ X
  subst hl_
  have hT_ := hT
  have hB0 := hB
  obtain ⟨ma, le, sl, N, e, mc, gm, gl, f, V, ⟨ht, hft, hnt⟩, ⟨hma, hfma, hnma, hgm⟩, ⟨hle, hfle, hnle, hgl⟩, hml, ⟨hdl, hnsl, hne⟩, hV, hag⟩ := hT
  obtain ⟨hsl, hfsl, hnN, hN60, hdl4⟩ := id hdl
  have hn36 := hk.1
  replace hB := hB.sub hag hS.1.p
  have hB_ := hB
  obtain ⟨lp, lr, la, P, R, A, hb, hfb, ⟨⟨mp_, ep, fp, hlp, hep, hn6, hfp, -, -, -⟩, hP⟩, ⟨⟨mr_, er, fr_, hlr, her, hn30, hfr_, -, -, -⟩, hR⟩, ⟨ma_, ea, fa, hla, hea, hn6a, hfa, -, -, -⟩, hA⟩ := hB
  have hW := hS.1
  have hp0 := hW.p
  have hr0 := hW.r
  have ha0 := hW.a
  refine jv_aload_n X dX10_isProved_0 0 rfl ?_
  refine jv_ask (jv_runV (As := []) (rest := []) X dX10_isProved_1 (c_X10_isConflict hG hB0 hS hL hPP hT_ hk hwT) (lw_V q1058 q1059 q1060 q115 q1061) hd_X10_isConflict ht rfl (Nat.le_of_ble_eq_true rfl) (Nat.le_of_ble_eq_true rfl) (Nat.le_of_ble_eq_true rfl) (Nat.le_of_ble_eq_true rfl) rfl (Nat.le_of_ble_eq_true rfl)) ?_
  refine jb_if_ne 9 X dX10_isProved_4 (by decide) (fun c4 => ?_) (fun c4 => ?_)
  · skip
    have g_ := cf_t c4
    have h6_ := hk.2.2
    refine jv_bipush (v := nI 6) X dX10_isProved_9 rfl ?_
    refine jv_newi (N := 6) (k1 := 1) (n1 := 6) X dX10_isProved_11 q563 (by decide) rfl (by decide) rfl rfl (Nat.le_of_ble_eq_true rfl) (Nat.le_of_ble_eq_true rfl) (fun q_1 hnq_1 hbq_1 => ?_)
    refine jv_astore_n (lv' := [(1, .ref q_1), (0, .ref t)]) X dX10_isProved_13 rfl (by decide) rfl ?_
    refine jv_iconst (v := nI 0) X dX10_isProved_14 rfl ?_
    refine jv_istore_n (lv' := [(2, .int (nI 0)), (1, .ref q_1), (0, .ref t)]) X dX10_isProved_15 rfl (by decide) rfl ?_
    have lp16_2 : ∀ (d_16 : Nat) (k : Nat) (g_1 : Nat → Int32), k ≤ S 0 → (∀ p, p < 6 → g_1 p = nI (if p < k then v_allStates S p else 0)) → S 0 - k < d_16 → jv_J x G 6 Q_ (jv_up M q_1 (.inl (G.2.2.1 0, 6, .inl g_1))) 1 6 16 [(0, .ref t), (1, .ref q_1), (2, .int (nI k))] [] := by
      intro d_16
      induction d_16 with
      | zero => intro k g_1 hik hg1 hm_16; exact absurd hm_16 (Nat.not_lt_zero _)
      | succ d_16 ih_16 =>
        intro k g_1 hik hg1 hm_16
        refine jv_iload_n X dX10_isProved_16 2 rfl ?_
        refine jv_aload_n X dX10_isProved_17 0 rfl ?_
        refine jv_get X dX10_isProved_18 ((jag.new jag.rf hnq_1).c ht) (T := TX10) (N := 5) (C := RX10) rfl in_X10 0 (by decide) q893 rfl rfl ?_
        refine jv_getN X dX10_isProved_21 ((jag.new jag.rf hnq_1).c hb) (T := TX1) (N := 3) (C := RX1) rfl in_X1 0 (by decide) q182 rfl rfl ?_
        refine jv_ask (jv_runV (As := []) (rest := [.int (nI k)]) X dX10_isProved_24 (c_J2_size ((jag.new jag.rf hnq_1).c hlp)) (lw_V q886 q284 q285 q94 q286) hd_J2_size ((jag.new jag.rf hnq_1).c hlp) rfl (Nat.le_of_ble_eq_true rfl) (Nat.le_of_ble_eq_true rfl) (by omega) (by omega) rfl (Nat.le_of_ble_eq_true rfl)) ?_
        refine jn_icmp_ge 56 X dX10_isProved_27 (by decide) (by omega) (by omega) (fun c27 => ?_) (fun c27 => ?_)
        · skip
          refine jv_aload_n X dX10_isProved_56 0 rfl ?_
          refine jv_askl (jv_runV (As := []) (rest := []) X dX10_isProved_57 (c_X10_proof hG hB0 hS hL hPP (hT_.new hnq_1) hk hwT) (lw_V q1082 q1055 q1056 q115 q1057) hd_X10_proof ((jag.new jag.rf hnq_1).c ht) rfl (Nat.le_of_ble_eq_true rfl) (Nat.le_of_ble_eq_true rfl) (by omega) (by omega) rfl (Nat.le_of_ble_eq_true rfl)) ?_
          refine jv_lstore_n (lv' := [(2, .long (lN (prT S T))), (0, .ref t), (1, .ref q_1)]) X dX10_isProved_60 rfl (by decide) rfl ?_
          refine jv_iconst (v := nI 0) X dX10_isProved_61 rfl ?_
          refine jv_istore (lv' := [(4, .int (nI 0)), (2, .long (lN (prT S T))), (0, .ref t), (1, .ref q_1)]) X dX10_isProved_62 (by decide) rfl ?_
          have lp64_3 : ∀ (d_64 : Nat) (i : Nat) (g2_ : Nat → Int32), i ≤ tn T → (∀ p, p < 6 → g2_ p = nI (lvP S T (prT S T) p i)) → tn T - i < d_64 → jv_J x G 6 Q_ (jv_up M q_1 (.inl (G.2.2.1 0, 6, .inl g2_))) 1 6 64 [(0, .ref t), (1, .ref q_1), (2, .long (lN (prT S T))), (4, .int (nI i))] [] := by
            intro d_64
            induction d_64 with
            | zero => intro i g2_ hii hg2 hm_64; exact absurd hm_64 (Nat.not_lt_zero _)
            | succ d_64 ih_64 =>
              intro i g2_ hii hg2 hm_64
              refine jv_iload X dX10_isProved_64 3 rfl ?_
              refine jv_aload_n X dX10_isProved_66 0 rfl ?_
              refine jv_get X dX10_isProved_67 ((jag.new jag.rf hnq_1).c ht) (T := TX10) (N := 5) (C := RX10) rfl in_X10 3 (by decide) q901 rfl rfl ?_
              refine jv_ask (jv_runV (As := []) (rest := [.int (nI i)]) X dX10_isProved_70 (c_J2_size ((jag.new jag.rf hnq_1).c hsl)) (lw_V q886 q284 q285 q94 q286) hd_J2_size ((jag.new jag.rf hnq_1).c hsl) rfl (Nat.le_of_ble_eq_true rfl) (Nat.le_of_ble_eq_true rfl) (by omega) (by omega) rfl (Nat.le_of_ble_eq_true rfl)) ?_
              refine jn_icmp_ge 144 X dX10_isProved_73 (by decide) (by omega) (by omega) (fun c73 => ?_) (fun c73 => ?_)
              · skip
                refine jv_aload_n X dX10_isProved_144 1 rfl ?_
                refine jv_aload_n X dX10_isProved_145 0 rfl ?_
                refine jv_get X dX10_isProved_146 ((jag.new jag.rf hnq_1).c ht) (T := TX10) (N := 5) (C := RX10) rfl in_X10 4 (by decide) q903 rfl rfl ?_
                rw [show cfI (tc T) = nI (tc T) from if_neg g_]
                refine jv_iald (v := nI (lvP S T (prT S T) (tc T) i)) X dX10_isProved_149 jv_up_s (jn_in (by omega) (by decide)) (by rw [nI_clamp (by omega)]; exact (hg2 _ (by omega))) ?_
                refine jn_if_ne 157 X dX10_isProved_150 (by decide) (Nat.lt_trans (lvP_lt hW (by omega) _) (by decide)) (fun c150 => ?_) (fun c150 => ?_)
                · skip
                  exact (absurd (by rw [show i = tn T by omega]; exact prf_end hh g_) c150)
                · skip
                  refine jv_iconst (v := nI 1) X dX10_isProved_153 rfl ?_
                  refine jv_goto 158 X dX10_isProved_154 (by decide) ?_
                  refine jv_fewer (jag.few (jag.new jag.rf hnq_1)) ?_
                  exact jv_iret (v := bI true) X dX10_isProved_158 (bI_nar _) hQ (Nat.le_of_ble_eq_true rfl) (Nat.le_of_ble_eq_true rfl) ⟨(congrArg bI (by rw [decide_eq_false g_]; rfl)), rfl⟩
              · skip
                have h10_4 := hdl.ten (show 0 < tn T by omega)
                obtain ⟨he_4, hfe_4⟩ := hdl.arr h10_4
                refine jv_aload_n X dX10_isProved_76 0 rfl ?_
                refine jv_get X dX10_isProved_77 ((jag.new jag.rf hnq_1).c ht) (T := TX10) (N := 5) (C := RX10) rfl in_X10 3 (by decide) q901 rfl rfl ?_
                refine jv_iload X dX10_isProved_80 3 rfl ?_
                refine jv_callr (jv_runV (As := [.int (nI i)]) (rest := []) X dX10_isProved_82 (c_J2_get ((jag.new jag.rf hnq_1).c hsl) ((jag.new jag.rf hnq_1).c he_4) i (V i) (by omega) (by omega) (by omega) (by rw [(hV _ (by omega)).1]; rfl)) (lw_V q887 q533 q534 q94 q535) hd_J2_get ((jag.new jag.rf hnq_1).c hsl) rfl (Nat.le_of_ble_eq_true rfl) (Nat.le_of_ble_eq_true rfl) (by omega) (by omega) rfl (Nat.le_of_ble_eq_true rfl)) (fun rr_ M_ h_ => ?_)
                obtain ⟨hr_, hm_⟩ := h_
                rw [hr_, hm_]
                clear hr_ hm_
                refine jv_castS X dX10_isProved_85 ((jag.new jag.rf hnq_1).c (hV i (by omega)).2) (r := (RX11, TX11, 4)) rfl q975 ?_
                refine jv_astore (lv' := [(5, .ref (V i)), (0, .ref t), (1, .ref q_1), (2, .long (lN (prT S T))), (4, .int (nI i))]) X dX10_isProved_88 (by decide) rfl ?_
                refine jv_lload_n X dX10_isProved_90 3 rfl ?_
                refine jv_iload X dX10_isProved_91 4 rfl ?_
                refine jv_lshr (w := lN ((prT S T) / 2 ^ i)) X dX10_isProved_93 (ln_shr (Nat.lt_trans (prT_lt S hk) (by decide)) (by omega)) ?_
                refine jv_lconst (v := lN 1) X dX10_isProved_94 rfl ?_
                refine jv_land (w := lN (((prT S T) / 2 ^ i) % 2)) X dX10_isProved_95 (ln_and1 (Nat.lt_of_le_of_lt (Nat.div_le_self _ _) (Nat.lt_trans (prT_lt S hk) (by decide)))) ?_
                refine jv_lconst (v := lN 1) X dX10_isProved_96 rfl ?_
                refine jv_lcmp X dX10_isProved_97 ?_
                refine jc_if_ne 138 X dX10_isProved_98 (by decide) (Nat.lt_trans (Nat.mod_lt _ (by decide)) (by decide)) (by decide) (fun c98 => ?_) (fun c98 => ?_)
                · skip
                  refine jv_iinc (v := nI (i + 1)) (lv' := [(4, .int (nI (i + 1))), (5, .ref (V i)), (0, .ref t), (1, .ref q_1), (2, .long (lN (prT S T)))]) X dX10_isProved_138 4 rfl (nI_1 _) (by decide) rfl ?_
                  refine jv_goto 64 X dX10_isProved_141 (by decide) ?_
                  refine jv_lv (lv' := [(0, .ref t), (1, .ref q_1), (2, .long (lN (prT S T))), (4, .int (nI (i + 1)))]) [2, 3, 4, 0] rfl ?_
                  exact ih_64 (i + 1) g2_ (by omega) (fun p hp => by rw [hg2 p hp]; show _ = nI (if prT S T / 2 ^ i % 2 = 1 then _ else _); rw [if_neg c98]) (by omega)
                · skip
                  have hwi_ := hwT i (by omega)
                  refine jv_aload X dX10_isProved_101 0 rfl ?_
                  refine jv_getN X dX10_isProved_103 ((jag.new jag.rf hnq_1).c (hV i (by omega)).2) (T := TX11) (N := 4) (C := RX11) rfl in_X11 2 (by decide) q989 rfl rfl ?_
                  refine jv_aload_n X dX10_isProved_106 1 rfl ?_
                  refine jv_aload X dX10_isProved_107 0 rfl ?_
                  refine jv_aload_n X dX10_isProved_109 2 rfl ?_
                  refine jv_ask (jv_runV (As := [.ref (V i), .ref q_1]) (rest := [.int (nI (tg T i))]) X dX10_isProved_110 (c_X10_impossibleBy hG (hB_.sub (jag.new jag.rf hnq_1) hp0) hS hL hPP ((jag.new jag.rf hnq_1).c ht) ((jag.new jag.rf hnq_1).c hma) hgm (T := T) (i := i) ((jag.new jag.rf hnq_1).c (hV i (by omega)).2) (hwT i (by omega)) (hh.1 i (by omega)).2 jv_up_s (c := fun p => lvP S T (prT S T) p i) hg2 (fun p hp => lvP_lt hW hp _)) (lw_V q1083 q1085 qs24 q115 q1086) hd_X10_impossibleBy ((jag.new jag.rf hnq_1).c ht) rfl (Nat.le_of_ble_eq_true rfl) (Nat.le_of_ble_eq_true rfl) (by omega) (by omega) rfl (Nat.le_of_ble_eq_true rfl)) ?_
                  refine jv_iconst (v := (-1)) X dX10_isProved_113 rfl ?_
                  refine jv_ixor (w := (jE S T (fun p => lvP S T (prT S T) p i) i) ^^^ (-1)) X dX10_isProved_114 rfl ?_
                  refine jv_iand (w := (nI (tg T i)) &&& ((jE S T (fun p => lvP S T (prT S T) p i) i) ^^^ (-1))) X dX10_isProved_115 rfl ?_
                  refine jv_if_eq 121 X dX10_isProved_116 (by decide) (fun c116 => ?_) (fun c116 => ?_)
                  · skip
                    refine jv_aload_n X dX10_isProved_121 2 rfl ?_
                    refine jv_aload X dX10_isProved_122 0 rfl ?_
                    refine jv_getN X dX10_isProved_124 ((jag.new jag.rf hnq_1).c (hV i (by omega)).2) (T := TX11) (N := 4) (C := RX11) rfl in_X11 1 (by decide) q986 rfl rfl ?_
                    refine jv_dup2 X dX10_isProved_127 rfl rfl ?_
                    refine jv_iald (v := nI (lvP S T (prT S T) (tp T i) i)) X dX10_isProved_128 jv_up_s (jn_in (by omega) (by decide)) (by rw [nI_clamp (by omega)]; exact (hg2 _ (by omega))) ?_
                    refine jv_aload X dX10_isProved_129 0 rfl ?_
                    refine jv_getN X dX10_isProved_131 ((jag.new jag.rf hnq_1).c (hV i (by omega)).2) (T := TX11) (N := 4) (C := RX11) rfl in_X11 2 (by decide) q989 rfl rfl ?_
                    refine jv_iconst (v := (-1)) X dX10_isProved_134 rfl ?_
                    refine jv_ixor (w := (nI (tg T i)) ^^^ (-1)) X dX10_isProved_135 rfl ?_
                    refine jv_iand (w := nI (lvP S T (prT S T) (tp T i) i &&& ux (unv (tg T i)))) X dX10_isProved_136 (ux_and64 (lvP_lt hW (by omega) _) _) ?_
                    refine jv_iast (g := upd g2_ (tp T i) (nI (lvP S T (prT S T) (tp T i) i &&& ux (unv (tg T i))))) X dX10_isProved_137 jv_up_s hbq_1 (jn_in (by omega) (by decide)) (by rw [nI_clamp (by omega)]) ?_
                    rw [jv_up_up]
                    refine jv_iinc (v := nI (i + 1)) (lv' := [(4, .int (nI (i + 1))), (5, .ref (V i)), (0, .ref t), (1, .ref q_1), (2, .long (lN (prT S T)))]) X dX10_isProved_138 4 rfl (nI_1 _) (by decide) rfl ?_
                    refine jv_goto 64 X dX10_isProved_141 (by decide) ?_
                    refine jv_lv (lv' := [(0, .ref t), (1, .ref q_1), (2, .long (lN (prT S T))), (4, .int (nI (i + 1)))]) [2, 3, 4, 0] rfl ?_
                    exact ih_64 (i + 1) (upd g2_ (tp T i) (nI (lvP S T (prT S T) (tp T i) i &&& ux (unv (tg T i))))) (by omega) (fun p hp => by
                        show _ = nI (if prT S T / 2 ^ i % 2 = 1 then (if tp T i = p then lvP S T (prT S T) p i &&& ux (unv (tg T i)) else lvP S T (prT S T) p i) else _)
                        rw [if_pos c98]
                        by_cases e : p = tp T i
                        · rw [e, if_pos rfl]; simp [upd]
                        · rw [if_neg (fun z => e z.symm)]; simp only [upd, if_neg e]; exact hg2 p hp) (by omega)
                  · skip
                    exact (absurd (prf_ok hS hPP hwT hh g_ (by omega) c98) c116)
          refine jv_lv (lv' := [(0, .ref t), (1, .ref q_1), (2, .long (lN (prT S T))), (4, .int (nI 0))]) [2, 3, 1, 0] rfl ?_
          exact lp64_3 (tn T + 1) 0 g_1 (Nat.zero_le _) (fun p hp => by rw [hg1 p hp, show k = S 0 by omega]; rfl) (by omega)
        · skip
          refine jv_aload_n X dX10_isProved_30 1 rfl ?_
          refine jv_iload_n X dX10_isProved_31 2 rfl ?_
          refine jv_aload_n X dX10_isProved_32 0 rfl ?_
          refine jv_get X dX10_isProved_33 ((jag.new jag.rf hnq_1).c ht) (T := TX10) (N := 5) (C := RX10) rfl in_X10 0 (by decide) q893 rfl rfl ?_
          refine jv_getN X dX10_isProved_36 ((jag.new jag.rf hnq_1).c hb) (T := TX1) (N := 3) (C := RX1) rfl in_X1 0 (by decide) q182 rfl rfl ?_
          refine jv_iload_n X dX10_isProved_39 2 rfl ?_
          refine jv_callr (jv_runV (As := [.int (nI k)]) (rest := [.int (nI k), .ref q_1]) X dX10_isProved_40 (c_J2_get ((jag.new jag.rf hnq_1).c hlp) ((jag.new jag.rf hnq_1).c hep) k (P k) (by omega) (by omega) (by omega) (by rw [hfp _ (by omega)]; rfl)) (lw_V q887 q533 q534 q94 q535) hd_J2_get ((jag.new jag.rf hnq_1).c hlp) rfl (Nat.le_of_ble_eq_true rfl) (Nat.le_of_ble_eq_true rfl) (by omega) (by omega) rfl (Nat.le_of_ble_eq_true rfl)) (fun rr_ M_ h_ => ?_)
          obtain ⟨hr_, hm_⟩ := h_
          rw [hr_, hm_]
          clear hr_ hm_
          obtain ⟨lv_7, V_7, hpk_7, -, ⟨mv_7, ev_7, fv_7, hlv_7, hev_7, hnv_7, hfv_7, -, -, -⟩, hvv_7⟩ := hP k (by omega)
          have hnv5_7 := hW.nv (show k < 6 by omega)
          refine jv_castS X dX10_isProved_43 ((jag.new jag.rf hnq_1).c hpk_7) (r := (RX3, TX3, 2)) rfl q888 ?_
          refine jv_ask (jv_runV (As := []) (rest := [.int (nI k), .ref q_1]) X dX10_isProved_46 (c_X3_all ((hP k (by omega)).sub (jag.new jag.rf hnq_1)) hW (by omega)) (lw_V q889 q890 q891 q102 q892) hd_X3_all ((jag.new jag.rf hnq_1).c hpk_7) rfl (Nat.le_of_ble_eq_true rfl) (Nat.le_of_ble_eq_true rfl) (by omega) (by omega) rfl (Nat.le_of_ble_eq_true rfl)) ?_
          refine jv_iast (g := upd g_1 k (nI (v_allStates S k))) X dX10_isProved_49 jv_up_s hbq_1 (jn_in (by omega) (by decide)) (by rw [nI_clamp (by omega)]) ?_
          rw [jv_up_up]
          refine jv_iinc (v := nI (k + 1)) (lv' := [(2, .int (nI (k + 1))), (0, .ref t), (1, .ref q_1)]) X dX10_isProved_50 2 rfl (nI_1 _) (by decide) rfl ?_
          refine jv_goto 16 X dX10_isProved_53 (by decide) ?_
          refine jv_lv (lv' := [(0, .ref t), (1, .ref q_1), (2, .int (nI (k + 1)))]) [1, 2, 0] rfl ?_
          exact ih_16 (k + 1) (upd g_1 k (nI (v_allStates S k))) (by omega) (fun p hp => by
              by_cases e : p = k
              · rw [e, if_pos (by omega)]; simp [upd]
              · simp only [upd, if_neg e]; rw [hg1 p hp]; by_cases e2 : p < k
                · rw [if_pos e2, if_pos (by omega)]
                · rw [if_neg e2, if_neg (by omega)]) (by omega)
    refine jv_lv (lv' := [(0, .ref t), (1, .ref q_1), (2, .int (nI 0))]) [2, 1, 0] rfl ?_
    exact lp16_2 (S 0 + 1) 0 (fun _ => 0) (Nat.zero_le _) (fun p _ => by rw [if_neg (Nat.not_lt_zero _)]; rfl) (by omega)
  · skip
    have g_ := cf_f c4
    refine jv_iconst (v := nI 0) X dX10_isProved_7 rfl ?_
    exact jv_iret (v := bI false) X dX10_isProved_8 (bI_nar _) hQ (Nat.le_of_ble_eq_true rfl) (Nat.le_of_ble_eq_true rfl) ⟨(congrArg bI (by rw [decide_eq_true g_]; rfl)), rfl⟩
theorem isp_m {c : Nat} (h : c ≤ 6) : (!decide (c = 6)) = (if (cI c) = (-1) then false else true) := by
  rcases (by omega : c = 0 ∨ c = 1 ∨ c = 2 ∨ c = 3 ∨ c = 4 ∨ c = 5 ∨ c = 6) with rfl | rfl | rfl | rfl | rfl | rfl | rfl <;> decide
theorem hd_X0_isProved : jv_dd yX0_isProved 0 := by unfold jv_dd; decide +kernel
set_option maxHeartbeats 4000000 in
theorem c_X0_isProved {l : Launch} {G : jv_G} {M : jv_M} {σ : jk_A} (hG : jk_G G σ) {τ : Nat → Nat} {xa b pa ip rp : Nat} {sv : Option Nat} {eA_ fA_ : Int32} {S : Nat → Nat} (hx : M xa = some (.inr (0, [.ref b, .ref pa, .ref ip, .ref rp, va_rf sv,   .int eA_, .int fA_]))) (hB : jbd G M τ b S) (hS : wfS S) (hL : wfL S) (hPP : wfP S)   : jv_Ct G l yX0_isProved cX0_isProved 1 (some .boolean) 59 377 3254 1444 [.ref xa] M (jv_qi G (jv_pi (bI (m_isProved S)) M)) := by
  refine jv_Ct.of (lv := [(0, .ref xa)]) (by decide) (Nat.le_of_ble_eq_true rfl) rfl ?_
  intro x Q_ hl_ hQ X
  subst hl_
  have hB_ := hB
  obtain ⟨lp, lr, la, P, R, A, hb, hfb, ⟨⟨mp_, ep, fp, hlp, hep, hn6, hfp, -, -, -⟩, hP⟩, ⟨⟨mr_, er, fr_, hlr, her, hn30, hfr_, -, -, -⟩, hR⟩, ⟨ma_, ea, fa, hla, hea, hn6a, hfa, -, -, -⟩, hA⟩ := hB
  have hW := hS.1
  have hp0 := hW.p
  have hr0 := hW.r
  have ha0 := hW.a
  refine jv_aload_n X dX0_isProved_0 0 rfl ?_
  refine jv_callr (jv_runV (As := []) (rest := []) X dX0_isProved_1 (c_X0_traced hG hx hB_ hS hL hPP) (lw_V q848 q850 qs18 q90 q851) hd_X0_traced hx rfl (Nat.le_of_ble_eq_true rfl) (Nat.le_of_ble_eq_true rfl) (by omega) (by omega) rfl (Nat.le_of_ble_eq_true rfl)) (fun t1 M1 hT1 => ?_)
  obtain ⟨ma1, le1, sl1, N1, e1, mc1, gm1, gl1, f1, V1, ⟨ht1, hft1, hnt1⟩, ⟨hma1, hfma1, hnma1, hgm1⟩, ⟨hle1, hfle1, hnle1, hgl1⟩, hml1, ⟨hdl1, hnsl1, hne1⟩, hV1, hag1⟩ := id hT1
  obtain ⟨hsl1, hfsl1, hnN1, hN601, hdl41⟩ := id hdl1
  have hk36_ := (okT.ga hW).1
  refine jv_ask (jv_runV (As := []) (rest := []) X dX0_isProved_4 (c_X10_isProved hG hB_ hS hL hPP hT1 (okT.ga hW) (wfT.ga hS) (hst.ga hS hL hPP)) (lw_V q1078 q1079 q1080 q115 q1081) hd_X10_isProved ht1 rfl (Nat.le_of_ble_eq_true rfl) (Nat.le_of_ble_eq_true rfl) (by omega) (by omega) rfl (Nat.le_of_ble_eq_true rfl)) ?_
  refine jv_fewer (jag.few hag1) ?_
  exact jv_iret (v := bI (!decide (tc (gA S) = 6))) X dX0_isProved_7 (bI_nar _) hQ (Nat.le_of_ble_eq_true rfl) (Nat.le_of_ble_eq_true rfl) ⟨(congrArg bI (isp_m (okT.ga hW).2.2)), rfl⟩
