/-! the component, tenth: settling -/
set_option maxRecDepth 100000
theorem goC_c {S : Nat → Nat} {T : t_T2} (hc : ¬ tc T = 6) (who p : Nat) (x : Int32) : folT S (lvT who p x T) = T := by
  have e : lvT who p x T = T := by
    unfold lvT
    split
    · rfl
    · first | rfl | rw [if_neg hc]
  rw [e]
  exact foT_id (Or.inl hc)
/-- the assumptions of a set, one after the other, all looked at -/
def goC (S : Nat → Nat) (m : Int32) : Nat → Nat → t_T2 → t_T2
  | 0, _, T => T
  | d + 1, a, T => goC S m d (a + 1) (if hasI m (nI a) = true then folT S (lvT (100 + a) (v_asm S a 0) (unv (2 ^ v_asm S a 1)) T) else T)
theorem goC_N {S : Nat → Nat} {m : Int32} : ∀ (d a : Nat) (T : t_T2), goC S m d a T = goN S m d a T
  | 0, _, _ => rfl
  | d + 1, a, T => by
    unfold goC goN
    rw [goC_N d]
    by_cases hc : tc T = 6
    · rw [if_pos hc]
      unfold hasI
      by_cases h : (m >>> (nI a &&& 31)) &&& nI 1 = nI 1
      · rw [if_pos h, if_pos rfl, if_pos h]
      · rw [if_neg h, if_neg h, if_neg (by decide)]
    · rw [if_neg hc]
      have e : (if hasI m (nI a) = true then folT S (lvT (100 + a) (v_asm S a 0) (unv (2 ^ v_asm S a 1)) T) else T) = T := by
        split
        · exact goC_c hc _ _ _
        · rfl
      rw [e, ← goC_N d]
      exact (show goC S m d (a + 1) T = T from by
        have : ∀ (d a : Nat), goC S m d a T = T := by
          intro d
          induction d with
          | zero => intro a; rfl
          | succ d ih =>
            intro a
            unfold goC
            have e : (if hasI m (nI a) = true then folT S (lvT (100 + a) (v_asm S a 0) (unv (2 ^ v_asm S a 1)) T) else T) = T := by
              split
              · exact goC_c hc _ _ _
              · rfl
            rw [e]; exact ih _
        exact this d (a + 1))
theorem goC_s {S : Nat → Nat} {m : Int32} {d a : Nat} {T : t_T2} (h : 0 < d) : goC S m d a T = goC S m (d - 1) (a + 1) (if hasI m (nI a) = true then folT S (lvT (100 + a) (v_asm S a 0) (unv (2 ^ v_asm S a 1)) T) else T) := by
  obtain ⟨d, rfl⟩ : ∃ e, d = e + 1 := ⟨d - 1, by omega⟩
  rfl
theorem goC_le {S : Nat → Nat} {m : Int32} : ∀ (d a : Nat) (T : t_T2), tn T ≤ tn (goC S m d a T)
  | 0, _, _ => Nat.le_refl _
  | d + 1, a, T => by
    unfold goC
    refine Nat.le_trans ?_ (goC_le d (a + 1) _)
    split
    · exact Nat.le_trans lvT_le (foT_le _ _ _ _)
    · exact Nat.le_refl _
theorem hd_X10_passes : jv_dd yX10_passes 0 := by unfold jv_dd; decide +kernel
set_option maxHeartbeats 4000000 in
theorem c_X10_passes {l : Launch} {G : jv_G} {M : jv_M} {σ : jk_A} (hG : jk_G G σ) {B : jv_M} {τ : Nat → Nat} {b t : Nat} {S : Nat → Nat} {T : t_T2} (hB : jbd G B τ b S) (hS : wfS S) (hL : wfL S) (hPP : wfP S) (hT : jtr G σ B M S b t T) (hk : okT T) (hwT : wfT S T)   : jv_Ct G l yX10_passes cX10_passes 3 (some .boolean) 20 (2 * (tn (pas S T) - tn T)) (64 * (tn (pas S T) - tn T)) 700 [.ref t] M (jv_qi G (fun r M' => r = bI (decide (tn T < tn (pas S T))) ∧ jtr G σ B M' S b t (pas S T))) := by
  refine jv_Ct.of (lv := [(0, .ref t)]) (by decide) (Nat.le_of_ble_eq_true rfl) rfl ?_
  intro x Q_ hl_ hQ X
  subst hl_
  have hT_ := hT
  have hB0 := hB
  obtain ⟨lp, lr, la, P, R, A, hb, hfb, ⟨⟨mp_, ep, fp, hlp, hep, hn6, hfp, -, -, -⟩, hP⟩, ⟨⟨mr_, er, fr_, hlr, her, hn30, hfr_, -, -, -⟩, hR⟩, ⟨ma_, ea, fa, hla, hea, hn6a, hfa, -, -, -⟩, hA⟩ := id hB0
  have hW := hS.1
  have hp0 := hW.p
  have hr0 := hW.r
  have ha0 := hW.a
  obtain ⟨ma, le, sl, N, e, mc, gm, gl, f, V, ⟨ht, hft, hnt⟩, ⟨hma, hfma, hnma, hgm⟩, ⟨hle, hfle, hnle, hgl⟩, hml, ⟨hdl, hnsl, hne⟩, hV, hag⟩ := id hT_
  obtain ⟨hsl, hfsl, hnN, hN60, hdl4⟩ := id hdl
  have hn36 := hk.1
  refine jv_aload_n X dX10_passes_0 0 rfl ?_
  refine jv_get X dX10_passes_1 ht (T := TX10) (N := 5) (C := RX10) rfl in_X10 3 (by decide) q901 rfl rfl ?_
  refine jv_ask (jv_runV (As := []) (rest := []) X dX10_passes_4 (c_J2_size hsl) (lw_V q886 q284 q285 q94 q286) hd_J2_size hsl rfl (Nat.le_of_ble_eq_true rfl) (Nat.le_of_ble_eq_true rfl) (Nat.le_of_ble_eq_true rfl) (Nat.le_of_ble_eq_true rfl) rfl (Nat.le_of_ble_eq_true rfl)) ?_
  refine jv_istore_n (lv' := [(1, .int (nI (tn T))), (0, .ref t)]) X dX10_passes_7 rfl (by decide) rfl ?_
  refine jv_iconst (v := nI 0) X dX10_passes_8 rfl ?_
  refine jv_istore_n (lv' := [(2, .int (nI 0)), (1, .int (nI (tn T))), (0, .ref t)]) X dX10_passes_9 rfl (by decide) rfl ?_
  have lp10_1 : ∀ (d_10 : Nat) (i : Nat) (Ti : t_T2) (Mi : jv_M), i ≤ S 1 → jtr G σ B Mi S b t Ti → okT Ti → wfT S Ti → pas S T = pasN S (S 1 - i) i Ti → tn T ≤ tn Ti → S 1 - i < d_10 → jv_J x G 3 Q_ Mi (2 * (tn Ti - tn T)) (64 * (tn Ti - tn T)) 10 [(0, .ref t), (1, .int (nI (tn T))), (2, .int (nI i))] [] := by
    intro d_10
    induction d_10 with
    | zero => intro i Ti Mi hi hTi hki hwi hpi hlT hm_10; exact absurd hm_10 (Nat.not_lt_zero _)
    | succ d_10 ih_10 =>
      intro i Ti Mi hi hTi hki hwi hpi hlT hm_10
      obtain ⟨mai, lei, sli, Ni, ei, mci, gmi, gli, fi, Vi, ⟨hti, hfti, hnti⟩, ⟨hmai, hfmai, hnmai, hgmi⟩, ⟨hlei, hflei, hnlei, hgli⟩, hmli, ⟨hdli, hnsli, hnei⟩, hVi, hagi⟩ := id hTi
      obtain ⟨hsli, hfsli, hnNi, hN60i, hdl4i⟩ := id hdli
      have hpl_ : tn Ti ≤ tn (pas S T) := by rw [hpi]; exact pasN_le _ _ _
      have hn36i := hki.1
      refine jv_iload_n X dX10_passes_10 2 rfl ?_
      refine jv_aload_n X dX10_passes_11 0 rfl ?_
      refine jv_get X dX10_passes_12 hti (T := TX10) (N := 5) (C := RX10) rfl in_X10 0 (by decide) q893 rfl rfl ?_
      refine jv_getN X dX10_passes_15 (hagi.c hb) (T := TX1) (N := 3) (C := RX1) rfl in_X1 1 (by decide) q186 rfl rfl ?_
      refine jv_ask (jv_runV (As := []) (rest := [.int (nI i)]) X dX10_passes_18 (c_J2_size (hagi.c hlr)) (lw_V q886 q284 q285 q94 q286) hd_J2_size (hagi.c hlr) rfl (Nat.le_of_ble_eq_true rfl) (Nat.le_of_ble_eq_true rfl) (by omega) (by omega) rfl (Nat.le_of_ble_eq_true rfl)) ?_
      refine jn_icmp_ge 56 X dX10_passes_21 (by decide) (by omega) (by omega) (fun c21 => ?_) (fun c21 => ?_)
      · skip
        have hE_ : pas S T = Ti := by rw [hpi, show S 1 - i = 0 by omega]; rfl
        refine jv_aload_n X dX10_passes_56 0 rfl ?_
        refine jv_get X dX10_passes_57 hti (T := TX10) (N := 5) (C := RX10) rfl in_X10 3 (by decide) q901 rfl rfl ?_
        refine jv_ask (jv_runV (As := []) (rest := []) X dX10_passes_60 (c_J2_size hsli) (lw_V q886 q284 q285 q94 q286) hd_J2_size hsli rfl (Nat.le_of_ble_eq_true rfl) (Nat.le_of_ble_eq_true rfl) (by omega) (by omega) rfl (Nat.le_of_ble_eq_true rfl)) ?_
        refine jv_iload_n X dX10_passes_63 1 rfl ?_
        refine jn_icmp_le 71 X dX10_passes_64 (by decide) (by omega) (by omega) (fun c64 => ?_) (fun c64 => ?_)
        · skip
          refine jv_iconst (v := nI 0) X dX10_passes_71 rfl ?_
          exact jv_iret (v := bI false) X dX10_passes_72 (bI_nar _) hQ (by omega) (by omega) ⟨(by rw [hE_, decide_eq_false (show ¬ tn T < tn Ti by omega)]), (by rw [hE_]; exact hTi)⟩
        · skip
          refine jv_iconst (v := nI 1) X dX10_passes_67 rfl ?_
          refine jv_goto 72 X dX10_passes_68 (by decide) ?_
          exact jv_iret (v := bI true) X dX10_passes_72 (bI_nar _) hQ (by omega) (by omega) ⟨(by rw [hE_, decide_eq_true (show tn T < tn Ti by omega)]), (by rw [hE_]; exact hTi)⟩
      · skip
        refine jv_aload_n X dX10_passes_24 0 rfl ?_
        refine jv_get X dX10_passes_25 hti (T := TX10) (N := 5) (C := RX10) rfl in_X10 4 (by decide) q903 rfl rfl ?_
        refine jv_if_ge 56 X dX10_passes_28 (by decide) (fun c28 => ?_) (fun c28 => ?_)
        · skip
          have hE_ : pas S T = Ti := by rw [hpi, pasN_c ((cfI_ge hki.2.2).mp c28)]
          refine jv_aload_n X dX10_passes_56 0 rfl ?_
          refine jv_get X dX10_passes_57 hti (T := TX10) (N := 5) (C := RX10) rfl in_X10 3 (by decide) q901 rfl rfl ?_
          refine jv_ask (jv_runV (As := []) (rest := []) X dX10_passes_60 (c_J2_size hsli) (lw_V q886 q284 q285 q94 q286) hd_J2_size hsli rfl (Nat.le_of_ble_eq_true rfl) (Nat.le_of_ble_eq_true rfl) (by omega) (by omega) rfl (Nat.le_of_ble_eq_true rfl)) ?_
          refine jv_iload_n X dX10_passes_63 1 rfl ?_
          refine jn_icmp_le 71 X dX10_passes_64 (by decide) (by omega) (by omega) (fun c64 => ?_) (fun c64 => ?_)
          · skip
            refine jv_iconst (v := nI 0) X dX10_passes_71 rfl ?_
            exact jv_iret (v := bI false) X dX10_passes_72 (bI_nar _) hQ (by omega) (by omega) ⟨(by rw [hE_, decide_eq_false (show ¬ tn T < tn Ti by omega)]), (by rw [hE_]; exact hTi)⟩
          · skip
            refine jv_iconst (v := nI 1) X dX10_passes_67 rfl ?_
            refine jv_goto 72 X dX10_passes_68 (by decide) ?_
            exact jv_iret (v := bI true) X dX10_passes_72 (bI_nar _) hQ (by omega) (by omega) ⟨(by rw [hE_, decide_eq_true (show tn T < tn Ti by omega)]), (by rw [hE_]; exact hTi)⟩
        · skip
          have hpm_ : tn (appT S i Ti) ≤ tn (pas S T) := by rw [hpi, pasN_s (by omega) (cfI_6 hki.2.2 c28)]; exact pasN_le _ _ _
          refine jv_aload_n X dX10_passes_31 0 rfl ?_
          refine jv_get X dX10_passes_32 hti (T := TX10) (N := 5) (C := RX10) rfl in_X10 0 (by decide) q893 rfl rfl ?_
          refine jv_getN X dX10_passes_35 (hagi.c hb) (T := TX1) (N := 3) (C := RX1) rfl in_X1 1 (by decide) q186 rfl rfl ?_
          refine jv_iload_n X dX10_passes_38 2 rfl ?_
          refine jv_callr (jv_runV (As := [.int (nI i)]) (rest := []) X dX10_passes_39 (c_J2_get (hagi.c hlr) (hagi.c her) i (R i) (by omega) (by omega) (by omega) (by rw [hfr_ _ (by omega)]; rfl)) (lw_V q887 q533 q534 q94 q535) hd_J2_get (hagi.c hlr) rfl (Nat.le_of_ble_eq_true rfl) (Nat.le_of_ble_eq_true rfl) (by omega) (by omega) rfl (Nat.le_of_ble_eq_true rfl)) (fun rr_ M_ h_ => ?_)
          obtain ⟨hr_, hm_⟩ := h_
          rw [hr_, hm_]
          clear hr_ hm_
          refine jr_cast X dX10_passes_42 q932 ((hR i (by omega)).sub hagi) ?_
          refine jv_aload_n X dX10_passes_45 0 rfl ?_
          refine jv_iload_n X dX10_passes_46 2 rfl ?_
          have hle3 : tn Ti ≤ tn (appT S i Ti) := app_n
          refine jv_callv (jr_narrows (rest := []) X dX10_passes_47 q933 hG hB0 hS hL hPP hTi hki hwi (by omega) (hR i (by omega)) (Nat.le_of_ble_eq_true rfl) (Nat.le_of_ble_eq_true rfl) (by omega) (by omega) (Nat.le_of_ble_eq_true rfl)) (fun M3 hT3 => ?_)
          obtain ⟨ma3, le3, sl3, N3, e3, mc3, gm3, gl3, f3, V3, ⟨ht3, hft3, hnt3⟩, ⟨hma3, hfma3, hnma3, hgm3⟩, ⟨hle3, hfle3, hnle3, hgl3⟩, hml3, ⟨hdl3, hnsl3, hne3⟩, hV3, hag3⟩ := id hT3
          obtain ⟨hsl3, hfsl3, hnN3, hN603, hdl43⟩ := id hdl3
          refine jv_iinc (v := nI (i + 1)) (lv' := [(2, .int (nI (i + 1))), (0, .ref t), (1, .int (nI (tn T)))]) X dX10_passes_50 2 rfl (nI_1 _) (by decide) rfl ?_
          refine jv_goto 10 X dX10_passes_53 (by decide) ?_
          refine jv_lv (lv' := [(0, .ref t), (1, .int (nI (tn T))), (2, .int (nI (i + 1)))]) [1, 2, 0] rfl ?_
          exact jv_widen (by omega) (by omega) (ih_10 (i + 1) (appT S i Ti) M3 (by omega) hT3 (hki.app hW (by omega)) (hwi.app hS (by omega) hki) (hpi.trans (by rw [pasN_s (by omega) (cfI_6 hki.2.2 c28)]; rfl)) (by omega) (by omega))
  refine jv_lv (lv' := [(0, .ref t), (1, .int (nI (tn T))), (2, .int (nI 0))]) [2, 1, 0] rfl ?_
  exact jv_widen (by omega) (by omega) (lp10_1 (S 1 + 1) 0 T M (Nat.zero_le _) hT_ hk hwT rfl (Nat.le_refl _) (by omega))
theorem hd_X10_settles : jv_dd yX10_settles 0 := by unfold jv_dd; decide +kernel
set_option maxHeartbeats 4000000 in
theorem c_X10_settles {l : Launch} {G : jv_G} {M : jv_M} {σ : jk_A} (hG : jk_G G σ) {B : jv_M} {τ : Nat → Nat} {b t : Nat} {S : Nat → Nat} {T : t_T2} (hB : jbd G B τ b S) (hS : wfS S) (hL : wfL S) (hPP : wfP S) (hT : jtr G σ B M S b t T) (hk : okT T) (hwT : wfT S T)   : jv_Ct G l yX10_settles cX10_settles 2 (none) 21 (2 * (tn (folT S T) - tn T)) (64 * (tn (folT S T) - tn T)) 722 [.ref t] M (jv_qv G (fun M' => jtr G σ B M' S b t (folT S T))) := by
  refine jv_Ct.of (lv := [(0, .ref t)]) (by decide) (Nat.le_of_ble_eq_true rfl) rfl ?_
  intro x Q_ hl_ hQ X
  subst hl_
  have hT_ := hT
  have hB0 := hB
  obtain ⟨lp, lr, la, P, R, A, hb, hfb, ⟨⟨mp_, ep, fp, hlp, hep, hn6, hfp, -, -, -⟩, hP⟩, ⟨⟨mr_, er, fr_, hlr, her, hn30, hfr_, -, -, -⟩, hR⟩, ⟨ma_, ea, fa, hla, hea, hn6a, hfa, -, -, -⟩, hA⟩ := id hB0
  have hW := hS.1
  have hp0 := hW.p
  have hr0 := hW.r
  have ha0 := hW.a
  obtain ⟨ma, le, sl, N, e, mc, gm, gl, f, V, ⟨ht, hft, hnt⟩, ⟨hma, hfma, hnma, hgm⟩, ⟨hle, hfle, hnle, hgl⟩, hml, ⟨hdl, hnsl, hne⟩, hV, hag⟩ := id hT_
  obtain ⟨hsl, hfsl, hnN, hN60, hdl4⟩ := id hdl
  have hn36 := hk.1
  refine jv_aload_n X dX10_settles_0 0 rfl ?_
  refine jv_get X dX10_settles_1 ht (T := TX10) (N := 5) (C := RX10) rfl in_X10 4 (by decide) q903 rfl rfl ?_
  have j12_1 : ∀ g0 : Bool, g0 = (if 0 ≤ (cfI (tc T)) then false else true) → jv_J x G 2 Q_ M 0 0 12 [(0, .ref t)] [.int (bI g0)] := by
    intro g0 e_g0
    refine jv_istore_n (lv' := [(1, .int (bI g0)), (0, .ref t)]) X dX10_settles_12 rfl (by decide) rfl ?_
    have lp13_2 : ∀ (d_13 : Nat) (g : Bool) (Ti : t_T2) (Mi : jv_M), jtr G σ B Mi S b t Ti → okT Ti → wfT S Ti → folT S Ti = folT S T → (g = false → stl S Ti) → (g = true → tc Ti = 6) → tn T ≤ tn Ti → (if g = true then 2 * (36 - tn Ti) + 1 else 0) < d_13 → jv_J x G 2 Q_ Mi (2 * (tn Ti - tn T)) (64 * (tn Ti - tn T)) 13 [(0, .ref t), (1, .int (bI g))] [] := by
      intro d_13
      induction d_13 with
      | zero => intro g Ti Mi hTi hki hwi hfi hg1 hg2 hlT hm_13; exact absurd hm_13 (Nat.not_lt_zero _)
      | succ d_13 ih_13 =>
        intro g Ti Mi hTi hki hwi hfi hg1 hg2 hlT hm_13
        obtain ⟨mai, lei, sli, Ni, ei, mci, gmi, gli, fi, Vi, ⟨hti, hfti, hnti⟩, ⟨hmai, hfmai, hnmai, hgmi⟩, ⟨hlei, hflei, hnlei, hgli⟩, hmli, ⟨hdli, hnsli, hnei⟩, hVi, hagi⟩ := id hTi
        obtain ⟨hsli, hfsli, hnNi, hN60i, hdl4i⟩ := id hdli
        have hfl_ : tn Ti ≤ tn (folT S T) := by rw [← hfi]; exact foT_le _ _ _ _
        have hn36i := hki.1
        refine jv_iload_n X dX10_settles_13 1 rfl ?_
        refine jb_if_eq 40 X dX10_settles_14 (by decide) (fun c14 => ?_) (fun c14 => ?_)
        · skip
          exact jv_vret X dX10_settles_40 hQ (by omega) (by omega) (by rw [← hfi, foT_id (hg1 c14)]; exact hTi)
        · skip
          have hfp_ : tn (pas S Ti) ≤ tn (folT S T) := by rw [← hfi, ← foT_pas hW hki]; exact foT_le _ _ _ _
          refine jv_aload_n X dX10_settles_17 0 rfl ?_
          have hle3 : tn Ti ≤ tn (pas S Ti) := pasN_le _ _ _
          refine jv_calli (jv_runV (As := []) (rest := []) X dX10_settles_18 (c_X10_passes hG hB0 hS hL hPP hTi hki hwi) (lw_V q928 q930 qs21 q115 q931) hd_X10_passes hti rfl (Nat.le_of_ble_eq_true rfl) (Nat.le_of_ble_eq_true rfl) (by omega) (by omega) rfl (Nat.le_of_ble_eq_true rfl)) (fun rr_ M3 h_ => ?_)
          obtain ⟨hr_, hT3⟩ := h_
          rw [hr_]
          obtain ⟨ma3, le3, sl3, N3, e3, mc3, gm3, gl3, f3, V3, ⟨ht3, hft3, hnt3⟩, ⟨hma3, hfma3, hnma3, hgm3⟩, ⟨hle3, hfle3, hnle3, hgl3⟩, hml3, ⟨hdl3, hnsl3, hne3⟩, hV3, hag3⟩ := id hT3
          obtain ⟨hsl3, hfsl3, hnN3, hN603, hdl43⟩ := id hdl3
          have hk2_ := okT.pas hW (S 1) 0 Ti hki (by omega)
          replace hk2_ : okT (pas S Ti) := hk2_
          refine jb_if_eq 35 X dX10_settles_21 (by decide) (fun c21 => ?_) (fun c21 => ?_)
          · skip
            refine jv_iconst (v := nI 0) X dX10_settles_35 rfl ?_
            refine jv_istore_n (lv' := [(1, .int (nI 0)), (0, .ref t)]) X dX10_settles_36 rfl (by decide) rfl ?_
            refine jv_goto 13 X dX10_settles_37 (by decide) ?_
            refine jv_lv (lv' := [(0, .ref t), (1, .int (nI 0))]) [1, 0] rfl ?_
            exact jv_widen (by omega) (by omega) (ih_13 false (pas S Ti) M3 hT3 hk2_ (wfT.pas hS _ _ _ hwi hki (by omega)) ((foT_pas hW hki).trans hfi) (fun _ => pas_stl (hg2 c14) (by simpa using c21)) (fun z => by cases z) (by omega) (by have := hk2_.1; rw [if_pos c14] at hm_13; first | (rw [if_neg (by decide)]; omega) | (split <;> omega)))
          · skip
            have c21_ : tn Ti < tn (pas S Ti) := of_decide_eq_true c21
            refine jv_aload_n X dX10_settles_24 0 rfl ?_
            refine jv_get X dX10_settles_25 ht3 (T := TX10) (N := 5) (C := RX10) rfl in_X10 4 (by decide) q903 rfl rfl ?_
            have j36_4 : ∀ g2 : Bool, g2 = (if 0 ≤ (cfI (tc (pas S Ti))) then false else true) → jv_J x G 2 Q_ M3 (2 * (tn Ti - tn T) + 2 * (tn (pas S Ti) - tn Ti)) (64 * (tn Ti - tn T) + 64 * (tn (pas S Ti) - tn Ti)) 36 [(0, .ref t), (1, .int (bI g))] [.int (bI g2)] := by
              intro g2 e_g2
              refine jv_istore_n (lv' := [(1, .int (bI g2)), (0, .ref t)]) X dX10_settles_36 rfl (by decide) rfl ?_
              refine jv_goto 13 X dX10_settles_37 (by decide) ?_
              refine jv_lv (lv' := [(0, .ref t), (1, .int (bI g2))]) [1, 0] rfl ?_
              exact jv_widen (by omega) (by omega) (ih_13 g2 (pas S Ti) M3 hT3 hk2_ (wfT.pas hS _ _ _ hwi hki (by omega)) ((foT_pas hW hki).trans hfi) (fun z => Or.inl (by rw [e_g2] at z; by_cases y : 0 ≤ cfI (tc (pas S Ti)); exact (cfI_ge hk2_.2.2).mp y; rw [if_neg y] at z; cases z)) (fun z => by rw [e_g2] at z; by_cases y : 0 ≤ cfI (tc (pas S Ti)); rw [if_pos y] at z; cases z; exact Classical.byContradiction fun u => y ((cfI_ge hk2_.2.2).mpr u)) (by omega) (by have := hk2_.1; rw [if_pos c14] at hm_13; first | (rw [if_neg (by decide)]; omega) | (split <;> omega)))
            refine jv_if_ge 35 X dX10_settles_28 (by decide) (fun c28 => ?_) (fun c28 => ?_)
            · skip
              refine jv_iconst (v := nI 0) X dX10_settles_35 rfl ?_
              exact j36_4 _ (if_pos c28).symm
            · skip
              refine jv_iconst (v := nI 1) X dX10_settles_31 rfl ?_
              refine jv_goto 36 X dX10_settles_32 (by decide) ?_
              exact j36_4 _ (if_neg c28).symm
    refine jv_lv (lv' := [(0, .ref t), (1, .int (bI g0))]) [1, 0] rfl ?_
    exact jv_widen (by omega) (by omega) (lp13_2 ((if g0 = true then 2 * (36 - tn T) + 1 else 0) + 1) g0 T M hT_ hk hwT rfl (fun z => Or.inl (by rw [e_g0] at z; by_cases y : 0 ≤ cfI (tc T); exact (cfI_ge hk.2.2).mp y; rw [if_neg y] at z; cases z)) (fun z => by rw [e_g0] at z; by_cases y : 0 ≤ cfI (tc T); rw [if_pos y] at z; cases z; exact Classical.byContradiction fun u => y ((cfI_ge hk.2.2).mpr u)) (Nat.le_refl _) (Nat.lt_succ_self _))
  refine jv_if_ge 11 X dX10_settles_4 (by decide) (fun c4 => ?_) (fun c4 => ?_)
  · skip
    refine jv_iconst (v := nI 0) X dX10_settles_11 rfl ?_
    exact j12_1 _ (if_pos c4).symm
  · skip
    refine jv_iconst (v := nI 1) X dX10_settles_7 rfl ?_
    refine jv_goto 12 X dX10_settles_8 (by decide) ?_
    exact j12_1 _ (if_neg c4).symm
theorem hd_X10_runs : jv_dd yX10_runs 1 := by unfold jv_dd; decide +kernel
set_option maxHeartbeats 4000000 in
theorem c_X10_runs {l : Launch} {G : jv_G} {M : jv_M} {σ : jk_A} (hG : jk_G G σ) {B : jv_M} {τ : Nat → Nat} {b t : Nat} {S : Nat → Nat} {T : t_T2} (hB : jbd G B τ b S) (hS : wfS S) (hL : wfL S) (hPP : wfP S) (hT : jtr G σ B M S b t T) (hk : okT T) (hwT : wfT S T) (m_ : Int32)  : jv_Ct G l yX10_runs cX10_runs 4 (some (.object "VersionSolver$Trace")) 22 (2 * (tn (goC S m_ (S 2) 0 (folT S T)) - tn T)) (64 * (tn (goC S m_ (S 2) 0 (folT S T)) - tn T)) 743 [.ref t, .int m_] M (jv_qr G (fun r M' => r = t ∧ jtr G σ B M' S b t (goC S m_ (S 2) 0 (folT S T)))) := by
  refine jv_Ct.of (lv := [(0, .ref t), (1, .int m_)]) (by decide) (Nat.le_of_ble_eq_true rfl) rfl ?_
  intro x Q_ hl_ hQ X
  subst hl_
  have hT_ := hT
  have hB0 := hB
  obtain ⟨lp, lr, la, P, R, A, hb, hfb, ⟨⟨mp_, ep, fp, hlp, hep, hn6, hfp, -, -, -⟩, hP⟩, ⟨⟨mr_, er, fr_, hlr, her, hn30, hfr_, -, -, -⟩, hR⟩, ⟨ma_, ea, fa, hla, hea, hn6a, hfa, -, -, -⟩, hA⟩ := id hB0
  have hW := hS.1
  have hp0 := hW.p
  have hr0 := hW.r
  have ha0 := hW.a
  obtain ⟨ma, le, sl, N, e, mc, gm, gl, f, V, ⟨ht, hft, hnt⟩, ⟨hma, hfma, hnma, hgm⟩, ⟨hle, hfle, hnle, hgl⟩, hml, ⟨hdl, hnsl, hne⟩, hV, hag⟩ := id hT_
  obtain ⟨hsl, hfsl, hnN, hN60, hdl4⟩ := id hdl
  have hn36 := hk.1
  have hgc0_ : tn (folT S T) ≤ tn (goC S m_ (S 2) 0 (folT S T)) := goC_le _ _ _
  refine jv_aload_n X dX10_runs_0 0 rfl ?_
  have hle1 : tn T ≤ tn (folT S T) := foT_le _ _ _ _
  refine jv_callv (jv_runV (As := []) (rest := []) X dX10_runs_1 (c_X10_settles hG hB0 hS hL hPP hT_ hk hwT) (lw_V q924 q926 qs20 q115 q927) hd_X10_settles ht rfl (Nat.le_of_ble_eq_true rfl) (Nat.le_of_ble_eq_true rfl) (by omega) (by omega) rfl (Nat.le_of_ble_eq_true rfl)) (fun M1 hT1 => ?_)
  obtain ⟨ma1, le1, sl1, N1, e1, mc1, gm1, gl1, f1, V1, ⟨ht1, hft1, hnt1⟩, ⟨hma1, hfma1, hnma1, hgm1⟩, ⟨hle1, hfle1, hnle1, hgl1⟩, hml1, ⟨hdl1, hnsl1, hne1⟩, hV1, hag1⟩ := id hT1
  obtain ⟨hsl1, hfsl1, hnN1, hN601, hdl41⟩ := id hdl1
  refine jv_iconst (v := nI 0) X dX10_runs_4 rfl ?_
  refine jv_istore_n (lv' := [(2, .int (nI 0)), (0, .ref t), (1, .int m_)]) X dX10_runs_5 rfl (by decide) rfl ?_
  have lp6_2 : ∀ (d_6 : Nat) (k : Nat) (Ti : t_T2) (Mi : jv_M), k ≤ S 2 → jtr G σ B Mi S b t Ti → okT Ti → wfT S Ti → (goC S m_ (S 2) 0 (folT S T)) = goC S m_ (S 2 - k) k Ti → tn T ≤ tn Ti → S 2 - k < d_6 → jv_J x G 4 Q_ Mi (2 * (tn Ti - tn T)) (64 * (tn Ti - tn T)) 6 [(0, .ref t), (1, .int m_), (2, .int (nI k))] [] := by
    intro d_6
    induction d_6 with
    | zero => intro k Ti Mi hik hTi hki hwi hgi hlT hm_6; exact absurd hm_6 (Nat.not_lt_zero _)
    | succ d_6 ih_6 =>
      intro k Ti Mi hik hTi hki hwi hgi hlT hm_6
      obtain ⟨mai, lei, sli, Ni, ei, mci, gmi, gli, fi, Vi, ⟨hti, hfti, hnti⟩, ⟨hmai, hfmai, hnmai, hgmi⟩, ⟨hlei, hflei, hnlei, hgli⟩, hmli, ⟨hdli, hnsli, hnei⟩, hVi, hagi⟩ := id hTi
      obtain ⟨hsli, hfsli, hnNi, hN60i, hdl4i⟩ := id hdli
      have hgl_ : tn Ti ≤ tn (goC S m_ (S 2) 0 (folT S T)) := by rw [hgi]; exact goC_le _ _ _
      have hn36i := hki.1
      refine jv_iload_n X dX10_runs_6 2 rfl ?_
      refine jv_aload_n X dX10_runs_7 0 rfl ?_
      refine jv_get X dX10_runs_8 hti (T := TX10) (N := 5) (C := RX10) rfl in_X10 0 (by decide) q893 rfl rfl ?_
      refine jv_getN X dX10_runs_11 (hagi.c hb) (T := TX1) (N := 3) (C := RX1) rfl in_X1 2 (by decide) q192 rfl rfl ?_
      refine jv_ask (jv_runV (As := []) (rest := [.int (nI k)]) X dX10_runs_14 (c_J2_size (hagi.c hla)) (lw_V q886 q284 q285 q94 q286) hd_J2_size (hagi.c hla) rfl (Nat.le_of_ble_eq_true rfl) (Nat.le_of_ble_eq_true rfl) (by omega) (by omega) rfl (Nat.le_of_ble_eq_true rfl)) ?_
      refine jn_icmp_ge 73 X dX10_runs_17 (by decide) (by omega) (by omega) (fun c17 => ?_) (fun c17 => ?_)
      · skip
        refine jv_aload_n X dX10_runs_73 0 rfl ?_
        exact jv_aret X dX10_runs_74 (by first | exact Or.inl ⟨_, rfl⟩ | exact Or.inr ⟨_, rfl⟩) hQ (by omega) (by omega) ⟨rfl, (by rw [hgi, show S 2 - k = 0 by omega]; exact hTi)⟩
      · skip
        refine jv_iload_n X dX10_runs_20 1 rfl ?_
        refine jv_iload_n X dX10_runs_21 2 rfl ?_
        refine jv_ask (jv_runSN (As := [.int m_, .int (nI k)]) (rest := []) X dX10_runs_22 (c_X0_has m_ (nI k)) (lw_meth q678) q976 q90 q677 hd_X0_has (Nat.le_of_ble_eq_true rfl) (Nat.le_of_ble_eq_true rfl) (by omega) (by omega) rfl (Nat.le_of_ble_eq_true rfl)) ?_
        refine jb_if_eq 67 X dX10_runs_25 (by decide) (fun c25 => ?_) (fun c25 => ?_)
        · skip
          refine jv_iinc (v := nI (k + 1)) (lv' := [(2, .int (nI (k + 1))), (0, .ref t), (1, .int m_)]) X dX10_runs_67 2 rfl (nI_1 _) (by decide) rfl ?_
          refine jv_goto 6 X dX10_runs_70 (by decide) ?_
          refine jv_lv (lv' := [(0, .ref t), (1, .int m_), (2, .int (nI (k + 1)))]) [1, 2, 0] rfl ?_
          exact jv_widen (by omega) (by omega) (ih_6 (k + 1) Ti Mi (by omega) hTi hki hwi (hgi.trans (by rw [goC_s (by omega), if_neg (by rw [c25]; decide)]; rfl)) (by omega) (by omega))
        · skip
          have ha1_ := hW.a1 (show k < 6 by omega)
          have ha2_ := hS.2.2.1 k (by omega)
          have hgm_ : tn (folT S (lvT (100 + k) (v_asm S k 0) (nI (2 ^ v_asm S k 1) ^^^ (-1)) Ti)) ≤ tn (goC S m_ (S 2) 0 (folT S T)) := by rw [hgi, goC_s (by omega), if_pos c25]; exact goC_le _ _ _
          have hgm2_ : tn (lvT (100 + k) (v_asm S k 0) (nI (2 ^ v_asm S k 1) ^^^ (-1)) Ti) ≤ tn (folT S (lvT (100 + k) (v_asm S k 0) (nI (2 ^ v_asm S k 1) ^^^ (-1)) Ti)) := foT_le _ _ _ _
          refine jv_aload_n X dX10_runs_28 0 rfl ?_
          refine jv_get X dX10_runs_29 hti (T := TX10) (N := 5) (C := RX10) rfl in_X10 0 (by decide) q893 rfl rfl ?_
          refine jv_getN X dX10_runs_32 (hagi.c hb) (T := TX1) (N := 3) (C := RX1) rfl in_X1 2 (by decide) q192 rfl rfl ?_
          refine jv_iload_n X dX10_runs_35 2 rfl ?_
          refine jv_callr (jv_runV (As := [.int (nI k)]) (rest := []) X dX10_runs_36 (c_J2_get (hagi.c hla) (hagi.c hea) k (A k) (by omega) (by omega) (by omega) (by rw [hfa _ (by omega)]; rfl)) (lw_V q887 q533 q534 q94 q535) hd_J2_get (hagi.c hla) rfl (Nat.le_of_ble_eq_true rfl) (Nat.le_of_ble_eq_true rfl) (by omega) (by omega) rfl (Nat.le_of_ble_eq_true rfl)) (fun rr_ M_ h_ => ?_)
          obtain ⟨hr_, hm_⟩ := h_
          rw [hr_, hm_]
          clear hr_ hm_
          refine jv_castS X dX10_runs_39 (hagi.c (hA k (by omega)).2) (r := (RX12, TX12, 2)) rfl q1017 ?_
          refine jv_astore_n (lv' := [(3, .ref (A k)), (0, .ref t), (1, .int m_), (2, .int (nI k))]) X dX10_runs_42 rfl (by decide) rfl ?_
          refine jv_aload_n X dX10_runs_43 1 rfl ?_
          refine jv_bipush (v := nI 100) X dX10_runs_44 rfl ?_
          refine jv_iload_n X dX10_runs_46 3 rfl ?_
          refine jv_iadd (w := nI (100 + k)) X dX10_runs_47 (nI_add _ _) ?_
          refine jv_aload_n X dX10_runs_48 0 rfl ?_
          refine jv_getN X dX10_runs_49 (hagi.c (hA k (by omega)).2) (T := TX12) (N := 2) (C := RX12) rfl in_X12 0 (by decide) q1116 rfl rfl ?_
          refine jv_iconst (v := nI 1) X dX10_runs_52 rfl ?_
          refine jv_aload_n X dX10_runs_53 0 rfl ?_
          refine jv_getN X dX10_runs_54 (hagi.c (hA k (by omega)).2) (T := TX12) (N := 2) (C := RX12) rfl in_X12 1 (by decide) q1121 rfl rfl ?_
          refine jv_ishl (w := nI (2 ^ (v_asm S k 1))) X dX10_runs_57 (ni_shl1 (by omega)) ?_
          refine jv_iconst (v := (-1)) X dX10_runs_58 rfl ?_
          refine jv_ixor (w := (nI (2 ^ (v_asm S k 1))) ^^^ (-1)) X dX10_runs_59 rfl ?_
          refine jv_callv (jv_runV (As := [.int (nI (100 + k)), .int (nI (v_asm S k 0)), .int ((nI (2 ^ (v_asm S k 1))) ^^^ (-1))]) (rest := []) X dX10_runs_60 (c_X10_leavesOut hG hB0 hS hL hPP hTi hki hwi (100 + k) (v_asm S k 0) ((nI (2 ^ (v_asm S k 1))) ^^^ (-1)) (by omega) (by omega) (fun z => absurd z (by omega))) (lw_V q1018 q955 q956 q115 q957) hd_X10_leavesOut hti rfl (Nat.le_of_ble_eq_true rfl) (Nat.le_of_ble_eq_true rfl) (by omega) (by omega) rfl (Nat.le_of_ble_eq_true rfl)) (fun M4 hT4 => ?_)
          have hle4 : tn Ti ≤ tn (lvT (100 + k) (v_asm S k 0) ((nI (2 ^ (v_asm S k 1))) ^^^ (-1)) Ti) := lvT_le
          have hkl_ : okT (lvT (100 + k) (v_asm S k 0) (nI (2 ^ v_asm S k 1) ^^^ (-1)) Ti) := hki.lv (Nat.lt_of_lt_of_le (hS.2.2.1 k (by omega)) hp0) _
          have hwl_ : wfT S (lvT (100 + k) (v_asm S k 0) (nI (2 ^ v_asm S k 1) ^^^ (-1)) Ti) := hwi.lv hki hp0 (Or.inr ⟨by omega, by omega⟩) (hS.2.2.1 k (by omega)) _
          obtain ⟨ma4, le4, sl4, N4, e4, mc4, gm4, gl4, f4, V4, ⟨ht4, hft4, hnt4⟩, ⟨hma4, hfma4, hnma4, hgm4⟩, ⟨hle4, hfle4, hnle4, hgl4⟩, hml4, ⟨hdl4, hnsl4, hne4⟩, hV4, hag4⟩ := id hT4
          obtain ⟨hsl4, hfsl4, hnN4, hN604, hdl44⟩ := id hdl4
          refine jv_aload_n X dX10_runs_63 1 rfl ?_
          have hle5 : tn (lvT (100 + k) (v_asm S k 0) (nI (2 ^ v_asm S k 1) ^^^ (-1)) Ti) ≤ tn (folT S (lvT (100 + k) (v_asm S k 0) (nI (2 ^ v_asm S k 1) ^^^ (-1)) Ti)) := foT_le _ _ _ _
          refine jv_callv (jv_runV (As := []) (rest := []) X dX10_runs_64 (c_X10_settles hG hB0 hS hL hPP hT4 hkl_ hwl_) (lw_V q924 q926 qs20 q115 q927) hd_X10_settles ht4 rfl (Nat.le_of_ble_eq_true rfl) (Nat.le_of_ble_eq_true rfl) (by omega) (by omega) rfl (Nat.le_of_ble_eq_true rfl)) (fun M5 hT5 => ?_)
          obtain ⟨ma5, le5, sl5, N5, e5, mc5, gm5, gl5, f5, V5, ⟨ht5, hft5, hnt5⟩, ⟨hma5, hfma5, hnma5, hgm5⟩, ⟨hle5, hfle5, hnle5, hgl5⟩, hml5, ⟨hdl5, hnsl5, hne5⟩, hV5, hag5⟩ := id hT5
          obtain ⟨hsl5, hfsl5, hnN5, hN605, hdl45⟩ := id hdl5
          refine jv_iinc (v := nI (k + 1)) (lv' := [(2, .int (nI (k + 1))), (3, .ref (A k)), (0, .ref t), (1, .int m_)]) X dX10_runs_67 3 rfl (nI_1 _) (by decide) rfl ?_
          refine jv_goto 6 X dX10_runs_70 (by decide) ?_
          refine jv_lv (lv' := [(0, .ref t), (1, .int m_), (2, .int (nI (k + 1)))]) [2, 3, 0] rfl ?_
          exact jv_widen (by omega) (by omega) (ih_6 (k + 1) (folT S (lvT (100 + k) (v_asm S k 0) (nI (2 ^ v_asm S k 1) ^^^ (-1)) Ti)) M5 (by omega) hT5 (okT.foT hW hkl_) (wfT.foT hS hwl_ hkl_) (hgi.trans (by rw [goC_s (by omega), if_pos c25]; rfl)) (by omega) (by omega))
  refine jv_lv (lv' := [(0, .ref t), (1, .int m_), (2, .int (nI 0))]) [1, 2, 0] rfl ?_
  exact jv_widen (by omega) (by omega) (lp6_2 (S 2 + 1) 0 (folT S T) M1 (Nat.zero_le _) hT1 (okT.foT hW hk) (wfT.foT hS hwT hk) rfl (foT_le _ _ _ _) (by omega))
theorem hd_X10_init : jv_dd yX10_init 1 := by unfold jv_dd; decide +kernel
set_option maxHeartbeats 4000000 in
theorem c_X10_init {l : Launch} {G : jv_G}  {σ : jk_A} (hG : jk_G G σ) {B : jv_M} {τ : Nat → Nat} {b t : Nat} {S : Nat → Nat} (hB : jbd G B τ b S) (hS : wfS S) (hL : wfL S) (hnt : B t = none) (hft : G.1 ≤ t)   : jv_Ct G l yX10_init cX10_init 3 (none) 10 303 939 303 [.ref t, .ref b] (jv_up B t (.inr (8, [.null, .null, .null, .null, .int 0]))) (jv_qv G (fun M' => jtr G σ B M' S b t (t0T S))) := by
  refine jv_Ct.of (lv := [(0, .ref t), (1, .ref b)]) (by decide) (Nat.le_of_ble_eq_true rfl) rfl ?_
  intro x Q_ hl_ hQ X
  subst hl_
  have hB0 := hB
  obtain ⟨lp, lr, la, P, R, A, hb, hfb, ⟨⟨mp_, ep, fp, hlp, hep, hn6, hfp, -, -, -⟩, hP⟩, ⟨⟨mr_, er, fr_, hlr, her, hn30, hfr_, -, -, -⟩, hR⟩, ⟨ma_, ea, fa, hla, hea, hn6a, hfa, -, -, -⟩, hA⟩ := id hB0
  have hW := hS.1
  have hp0 := hW.p
  have hr0 := hW.r
  have ha0 := hW.a
  refine jv_aload_n X dX10_init_0 0 rfl ?_
  refine jv_obj0 X dX10_init_1 q857 (Nat.le_of_ble_eq_true rfl) (Nat.le_of_ble_eq_true rfl) ?_
  refine jv_aload_n X dX10_init_4 0 rfl ?_
  refine jv_bipush (v := nI 6) X dX10_init_5 rfl ?_
  refine jv_newi (N := 6) (k1 := 1) (n1 := 6) X dX10_init_7 q563 (by decide) rfl (by decide) rfl rfl (Nat.le_of_ble_eq_true rfl) (Nat.le_of_ble_eq_true rfl) (fun q_1 hnq_1 hbq_1 => ?_)
  refine jv_putF (fs' := [.null, .null, .ref q_1, .null, .int 0]) X dX10_init_9 ((jv_up_n (new_ne hnq_1 jv_up_s)).trans jv_up_s) hft (T := TX10) (N := 5) (C := RX10) rfl in_X10 tyX10 tyX10_ok nmX10 2 (by decide) q897 rfl rfl rfl rfl rfl rfl rfl (show 2 < 5 from by decide) rfl ?_
  refine jv_aload_n X dX10_init_12 0 rfl ?_
  refine jv_new (k1 := 2) (n1 := 9) X dX10_init_13 (T := TJ2) (N := 3) (C := RJ2) (fs := [.int 0, .null, .int 0]) (ci := 20) rfl in_J2 tyJ2 tyJ2_ok q858 q149 q94 rfl rfl rfl (Nat.le_of_ble_eq_true rfl) (Nat.le_of_ble_eq_true rfl) (fun q_2 hnq_2 hbq_2 => ?_)
  refine jv_dup X dX10_init_16 rfl ?_
  refine jv_callv (jv_runI (As := []) (rest := [.ref q_2, .ref t]) X dX10_init_17 (c_J2_init_2 hG jv_up_s hbq_2) (lw_meth q861) q94 q859 q860 rfl hd_J2_init_2 (Nat.le_of_ble_eq_true rfl) (Nat.le_of_ble_eq_true rfl) (by omega) (by omega) rfl (Nat.le_of_ble_eq_true rfl)) (fun M_ h_ => ?_)
  rw [h_]
  clear h_
  rw [jv_up_up]
  refine jv_putF (fs' := [.null, .null, .ref q_1, .ref q_2, .int 0]) X dX10_init_20 ((jv_up_n (new_ne hnq_2 jv_up_s)).trans jv_up_s) hft (T := TX10) (N := 5) (C := RX10) rfl in_X10 tyX10 tyX10_ok nmX10 3 (by decide) q901 rfl rfl rfl rfl rfl rfl rfl (show 3 < 5 from by decide) rfl ?_
  refine jv_aload_n X dX10_init_23 0 rfl ?_
  refine jv_bipush (v := (-5)) X dX10_init_24 rfl ?_
  refine jv_put (fs' := [.null, .null, .ref q_1, .ref q_2, .int (-5)]) X dX10_init_26 jv_up_s hft (T := TX10) (N := 5) (C := RX10) rfl in_X10 tyX10 tyX10_ok nmX10 4 (by decide) q903 rfl rfl  rfl rfl rfl (show 4 < 5 from by decide) rfl ?_
  rw [jv_up_up]
  refine jv_aload_n X dX10_init_29 0 rfl ?_
  refine jv_aload_n X dX10_init_30 1 rfl ?_
  refine jv_putF (fs' := [.ref b, .null, .ref q_1, .ref q_2, .int (-5)]) X dX10_init_31 jv_up_s hft (T := TX10) (N := 5) (C := RX10) rfl in_X10 tyX10 tyX10_ok nmX10 0 (by decide) q893 rfl rfl rfl rfl rfl rfl rfl (show 0 < 5 from by decide) rfl ?_
  rw [jv_up_up]
  refine jv_aload_n X dX10_init_34 0 rfl ?_
  refine jv_aload_n X dX10_init_35 1 rfl ?_
  refine jv_callr (jv_runV (As := []) (rest := [.ref t]) X dX10_init_36 (c_X1_masks hG (hB0.sub (jag.put (jag.new (jag.put (jag.new (jag.new jag.rf hnt) hnq_1) hnt) hnq_2) hnt) hp0) hS hL) (lw_V q862 q863 q864 q91 q865) hd_X1_masks ((jag.put (jag.new (jag.put (jag.new (jag.new jag.rf hnt) hnq_1) hnt) hnq_2) hnt).c hb) rfl (Nat.le_of_ble_eq_true rfl) (Nat.le_of_ble_eq_true rfl) (by omega) (by omega) rfl (Nat.le_of_ble_eq_true rfl)) (fun q_3 M_ h_ => ?_)
  obtain ⟨hnq_3, hbq_3, gq_3, hm_, hgq_3⟩ := h_
  rw [hm_]
  clear hm_
  refine jv_putF (fs' := [.ref b, .ref q_3, .ref q_1, .ref q_2, .int (-5)]) X dX10_init_39 ((jv_up_n (new_ne hnq_3 jv_up_s)).trans jv_up_s) hft (T := TX10) (N := 5) (C := RX10) rfl in_X10 tyX10 tyX10_ok nmX10 1 (by decide) q894 rfl rfl rfl rfl rfl rfl rfl (show 1 < 5 from by decide) rfl ?_
  refine jv_iconst (v := nI 0) X dX10_init_42 rfl ?_
  refine jv_istore_n (lv' := [(2, .int (nI 0)), (0, .ref t), (1, .ref b)]) X dX10_init_43 rfl (by decide) rfl ?_
  have lp44_4 : ∀ (d_44 : Nat) (i : Nat) (gl_ : Nat → Int32) (Mi : jv_M), i ≤ S 0 → (∀ p, p < 6 → gl_ p = nI (if p < i then v_allStates S p else 0)) → Mi t = some (.inr (8, [.ref b, .ref q_3, .ref q_1, .ref q_2, .int (-5)])) → Mi q_3 = some (.inl (G.2.2.1 0, S 1, .inl gq_3)) → Mi q_1 = some (.inl (G.2.2.1 0, 6, .inl gl_)) → Mi q_2 = some (.inr (20, [.int (nI 0), .ref (σ.2.2 2), .int 0])) → jag B Mi → S 0 - i < d_44 → jv_J x G 3 Q_ Mi 303 939 44 [(0, .ref t), (1, .ref b), (2, .int (nI i))] [] := by
    intro d_44
    induction d_44 with
    | zero => intro i gl_ Mi hi hgl_ hct hcm hcl hcs hag_Mi hm_44; exact absurd hm_44 (Nat.not_lt_zero _)
    | succ d_44 ih_44 =>
      intro i gl_ Mi hi hgl_ hct hcm hcl hcs hag_Mi hm_44
      refine jv_iload_n X dX10_init_44 2 rfl ?_
      refine jv_aload_n X dX10_init_45 1 rfl ?_
      refine jv_getN X dX10_init_46 (hag_Mi.c hb) (T := TX1) (N := 3) (C := RX1) rfl in_X1 0 (by decide) q182 rfl rfl ?_
      refine jv_ask (jv_runV (As := []) (rest := [.int (nI i)]) X dX10_init_49 (c_J2_size (hag_Mi.c hlp)) (lw_V q886 q284 q285 q94 q286) hd_J2_size (hag_Mi.c hlp) rfl (Nat.le_of_ble_eq_true rfl) (Nat.le_of_ble_eq_true rfl) (by omega) (by omega) rfl (Nat.le_of_ble_eq_true rfl)) ?_
      refine jn_icmp_ge 81 X dX10_init_52 (by decide) (by omega) (by omega) (fun c52 => ?_) (fun c52 => ?_)
      · skip
        exact jv_vret X dX10_init_81 hQ (Nat.le_of_ble_eq_true rfl) (Nat.le_of_ble_eq_true rfl) ⟨q_3, q_1, q_2, 0, _, _, gq_3, gl_, (fun _ => none), (fun _ => 0), ⟨hct, hft, hnt⟩, ⟨hcm, hbq_3, (jag.none (jag.put (jag.new (jag.put (jag.new (jag.new jag.rf hnt) hnq_1) hnt) hnq_2) hnt) hnq_3), hgq_3⟩, ⟨hcl, hbq_1, (jag.none (jag.new jag.rf hnt) hnq_1), fun p hp => by
            rw [hgl_ p hp]
            by_cases e : p < i
            · rw [if_pos e]; show _ = nI (if p < S 0 then _ else 0); rw [if_pos (by omega)]
            · rw [if_neg e]; show _ = nI (if p < S 0 then _ else 0); rw [if_neg (by omega)]⟩, (Ne.symm (new_ne hnq_3 ((jv_up_n (Ne.symm (new_ne hnq_1 jv_up_s))).trans ((jv_up_n (new_ne hnq_2 ((jv_up_n (Ne.symm (new_ne hnq_1 jv_up_s))).trans jv_up_s))).trans ((jv_up_n (Ne.symm (new_ne hnq_1 jv_up_s))).trans jv_up_s))))), ⟨⟨hcs, hbq_2, Nat.le_refl _, by decide, Or.inl ⟨rfl, rfl, rfl⟩⟩, (jag.none (jag.put (jag.new (jag.new jag.rf hnt) hnq_1) hnt) hnq_2), fun h => absurd h (by decide)⟩, (fun i hi => absurd hi (Nat.not_lt_zero _)), hag_Mi⟩
      · skip
        refine jv_aload_n X dX10_init_55 0 rfl ?_
        refine jv_get X dX10_init_56 hct (T := TX10) (N := 5) (C := RX10) rfl in_X10 2 (by decide) q897 rfl rfl ?_
        refine jv_iload_n X dX10_init_59 2 rfl ?_
        refine jv_aload_n X dX10_init_60 1 rfl ?_
        refine jv_getN X dX10_init_61 (hag_Mi.c hb) (T := TX1) (N := 3) (C := RX1) rfl in_X1 0 (by decide) q182 rfl rfl ?_
        refine jv_iload_n X dX10_init_64 2 rfl ?_
        refine jv_callr (jv_runV (As := [.int (nI i)]) (rest := [.int (nI i), .ref q_1]) X dX10_init_65 (c_J2_get (hag_Mi.c hlp) (hag_Mi.c hep) i (P i) (by omega) (by omega) (by omega) (by rw [hfp _ (by omega)]; rfl)) (lw_V q887 q533 q534 q94 q535) hd_J2_get (hag_Mi.c hlp) rfl (Nat.le_of_ble_eq_true rfl) (Nat.le_of_ble_eq_true rfl) (by omega) (by omega) rfl (Nat.le_of_ble_eq_true rfl)) (fun rr_ M_ h_ => ?_)
        obtain ⟨hr_, hm_⟩ := h_
        rw [hr_, hm_]
        clear hr_ hm_
        obtain ⟨lv_6, V_6, hpk_6, -, ⟨mv_6, ev_6, fv_6, hlv_6, hev_6, hnv_6, hfv_6, -, -, -⟩, hvv_6⟩ := hP i (by omega)
        have hnv5_6 := hW.nv (show i < 6 by omega)
        refine jv_castS X dX10_init_68 (hag_Mi.c hpk_6) (r := (RX3, TX3, 2)) rfl q888 ?_
        refine jv_ask (jv_runV (As := []) (rest := [.int (nI i), .ref q_1]) X dX10_init_71 (c_X3_all ((hP i (by omega)).sub hag_Mi) hW (by omega)) (lw_V q889 q890 q891 q102 q892) hd_X3_all (hag_Mi.c hpk_6) rfl (Nat.le_of_ble_eq_true rfl) (Nat.le_of_ble_eq_true rfl) (by omega) (by omega) rfl (Nat.le_of_ble_eq_true rfl)) ?_
        skip
        refine jv_iast (g := upd gl_ i (nI (v_allStates S i))) X dX10_init_74 hcl hbq_1 (jn_in (by omega) (by decide)) (by rw [nI_clamp (by omega)]) ?_
        refine jv_iinc (v := nI (i + 1)) (lv' := [(2, .int (nI (i + 1))), (0, .ref t), (1, .ref b)]) X dX10_init_75 2 rfl (nI_1 _) (by decide) rfl ?_
        refine jv_goto 44 X dX10_init_78 (by decide) ?_
        refine jv_lv (lv' := [(0, .ref t), (1, .ref b), (2, .int (nI (i + 1)))]) [1, 2, 0] rfl ?_
        exact ih_44 (i + 1) (upd gl_ i (nI (v_allStates S i))) (jv_up Mi q_1 (.inl (G.2.2.1 0, 6, .inl (upd gl_ i (nI (v_allStates S i)))))) (by omega) (fun p hp => by
            by_cases e : p = i
            · rw [e, if_pos (by omega)]; simp [upd]
            · simp only [upd, if_neg e]; rw [hgl_ p hp]; congr 1; by_cases e2 : p < i <;> simp [e2] <;> omega) ((jv_up_n (ck_ne hct hcl rfl)).trans hct) ((jv_up_n (Ne.symm (new_ne hnq_3 ((jv_up_n (Ne.symm (new_ne hnq_1 jv_up_s))).trans ((jv_up_n (new_ne hnq_2 ((jv_up_n (Ne.symm (new_ne hnq_1 jv_up_s))).trans jv_up_s))).trans ((jv_up_n (Ne.symm (new_ne hnq_1 jv_up_s))).trans jv_up_s)))))).trans hcm) jv_up_s ((jv_up_n (ck_ne hcs hcl rfl)).trans hcs) (jag.put hag_Mi (jag.none (jag.new jag.rf hnt) hnq_1)) (by omega)
  refine jv_lv (lv' := [(0, .ref t), (1, .ref b), (2, .int (nI 0))]) [1, 2, 0] rfl ?_
  exact lp44_4 (S 0 + 1) 0 (fun _ => 0) (jv_up (jv_up (jv_up (jv_up (jv_up (jv_up (jv_up B t (.inr (8, [.null, .null, .null, .null, .int 0]))) q_1 (.inl (G.2.2.1 0, 6, .inl (fun _ => 0)))) t (.inr (8, [.null, .null, .ref q_1, .null, .int 0]))) q_2 (.inr (20, [.int (nI 0), .ref (σ.2.2 2), .int 0]))) t (.inr (8, [.ref b, .null, .ref q_1, .ref q_2, .int (-5)]))) q_3 (.inl (G.2.2.1 0, S 1, .inl gq_3))) t (.inr (8, [.ref b, .ref q_3, .ref q_1, .ref q_2, .int (-5)]))) (Nat.zero_le _) (fun p hp => by rw [if_neg (Nat.not_lt_zero _)]; rfl) jv_up_s ((jv_up_n (Ne.symm (new_ne hnq_3 jv_up_s))).trans jv_up_s) ((jv_up_n (Ne.symm (new_ne hnq_1 jv_up_s))).trans ((jv_up_n (new_ne hnq_3 ((jv_up_n (Ne.symm (new_ne hnq_1 jv_up_s))).trans ((jv_up_n (new_ne hnq_2 ((jv_up_n (Ne.symm (new_ne hnq_1 jv_up_s))).trans jv_up_s))).trans ((jv_up_n (Ne.symm (new_ne hnq_1 jv_up_s))).trans jv_up_s))))).trans ((jv_up_n (Ne.symm (new_ne hnq_1 jv_up_s))).trans ((jv_up_n (new_ne hnq_2 ((jv_up_n (Ne.symm (new_ne hnq_1 jv_up_s))).trans jv_up_s))).trans ((jv_up_n (Ne.symm (new_ne hnq_1 jv_up_s))).trans jv_up_s))))) ((jv_up_n (Ne.symm (new_ne hnq_2 jv_up_s))).trans ((jv_up_n (new_ne hnq_3 ((jv_up_n (Ne.symm (new_ne hnq_2 jv_up_s))).trans jv_up_s))).trans ((jv_up_n (Ne.symm (new_ne hnq_2 jv_up_s))).trans jv_up_s))) (jag.put (jag.new (jag.put (jag.new (jag.put (jag.new (jag.new jag.rf hnt) hnq_1) hnt) hnq_2) hnt) hnq_3) hnt) (by omega)
