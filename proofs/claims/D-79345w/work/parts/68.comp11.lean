/-! the component, eleventh: questions of the solver -/
set_option maxRecDepth 100000
theorem cod2 {a b : Bool} {X : Int32} (h : ¬ fst2 (nob a) (bad_ b) = 0) : fst2 (nob a) (bad_ b) = if a = true then (if b = true then X else (-2)) else (-1) := by
  cases a <;> cases b
  · rfl
  · rfl
  · rfl
  · exact absurd (by decide) h
theorem rls_s {S : Nat → Nat} {r u w : Nat} : (if rIs S r u w = true then 1 else 0) = (if v_inN (v_ofRule S r 0) 1 2 = true then (if v_ofRule S r 1 = u then (if v_ofRule S r 2 = w then 1 else 0) else 0) else 0) := by
  unfold rIs
  by_cases h0 : v_inN (v_ofRule S r 0) 1 2 = true <;> by_cases h1 : v_ofRule S r 1 = u <;> by_cases h2 : v_ofRule S r 2 = w <;> simp [h0, h1, h2]
theorem sum_s {S : Nat → Nat} (hW : wfB S) {T : t_T2} {q : Nat} (hq : q < 6) {b : Bool} : (if b = true then v_of S q 0 else (if v_of S q 1 = 0 then 0 else 1)) = (if 2 ≤ (if b = true then 0 else 1) then cntN (tl T q) 64 else v_of S q (if b = true then 0 else 1)) := by
  have := hW.op hq
  cases b
  · rcases (by omega : v_of S q 1 = 0 ∨ v_of S q 1 = 1) with h | h <;> simp [h]
  · simp
theorem hd_X0_isPack : jv_dd yX0_isPack 1 := by unfold jv_dd; decide +kernel
set_option maxHeartbeats 4000000 in
theorem c_X0_isPack {l : Launch} {G : jv_G} {M : jv_M} {σ : jk_A} (hG : jk_G G σ) {τ : Nat → Nat} {xa b pa ip rp : Nat} {sv : Option Nat} {eA_ fA_ : Int32} {S : Nat → Nat} (hx : M xa = some (.inr (0, [.ref b, .ref pa, .ref ip, .ref rp, va_rf sv,   .int eA_, .int fA_]))) (hB : jbd G M τ b S) (hS : wfS S) (hL : wfL S) (hPP : wfP S) (p_ : Int32)  : jv_Ct G l yX0_isPack cX0_isPack 2 (some .boolean) 1 0 0 22 [.ref xa, .int p_] M (jv_qi G (jv_pi (bI (v_isPack S p_)) M)) := by
  refine jv_Ct.of (lv := [(0, .ref xa), (1, .int p_)]) (by decide) (Nat.le_of_ble_eq_true rfl) rfl ?_
  intro x Q_ hl_ hQ X
  subst hl_
  have hB_ := hB
  obtain ⟨lp, lr, la, P, R, A, hb, hfb, ⟨⟨mp_, ep, fp, hlp, hep, hn6, hfp, -, -, -⟩, hP⟩, ⟨⟨mr_, er, fr_, hlr, her, hn30, hfr_, -, -, -⟩, hR⟩, ⟨ma_, ea, fa, hla, hea, hn6a, hfa, -, -, -⟩, hA⟩ := hB
  have hW := hS.1
  have hp0 := hW.p
  have hr0 := hW.r
  have ha0 := hW.a
  refine jv_iload_n X dX0_isPack_0 1 rfl ?_
  refine jv_iconst (v := nI 0) X dX0_isPack_1 rfl ?_
  refine jv_aload_n X dX0_isPack_2 0 rfl ?_
  refine jv_get X dX0_isPack_3 hx (T := TX0) (N := 7) (C := RX0) rfl in_X0 0 (by decide) q257 rfl rfl ?_
  refine jv_getN X dX0_isPack_6 hb (T := TX1) (N := 3) (C := RX1) rfl in_X1 0 (by decide) q183 rfl rfl ?_
  refine jv_ask (jv_runV (As := []) (rest := [.int (nI 0), .int p_]) X dX0_isPack_9 (c_J2_size hlp) (lw_V q283 q284 q285 q94 q286) hd_J2_size hlp rfl (Nat.le_of_ble_eq_true rfl) (Nat.le_of_ble_eq_true rfl) (Nat.le_of_ble_eq_true rfl) (Nat.le_of_ble_eq_true rfl) rfl (Nat.le_of_ble_eq_true rfl)) ?_
  refine jv_iconst (v := nI 1) X dX0_isPack_12 rfl ?_
  refine jv_isub (w := nI (S 0) - nI 1) X dX0_isPack_13 rfl ?_
  refine jv_ask (jv_runS (As := [.int p_, .int (nI 0), .int (nI (S 0) - nI 1)]) (rest := []) X dX0_isPack_14 (c_X0_isIn p_ (nI 0) (nI (S 0) - nI 1)) (lw_S q516 q517 q90 q518) hd_X0_isIn (Nat.le_of_ble_eq_true rfl) (Nat.le_of_ble_eq_true rfl) (Nat.le_of_ble_eq_true rfl) (Nat.le_of_ble_eq_true rfl) rfl (Nat.le_of_ble_eq_true rfl)) ?_
  exact jv_iret (v := bI (v_in p_ (nI 0) (nI (S 0) - nI 1))) X dX0_isPack_17 (bI_nar _) hQ (Nat.le_of_ble_eq_true rfl) (Nat.le_of_ble_eq_true rfl) ⟨rfl, rfl⟩
theorem hd_X0_isRule : jv_dd yX0_isRule 1 := by unfold jv_dd; decide +kernel
set_option maxHeartbeats 4000000 in
theorem c_X0_isRule {l : Launch} {G : jv_G} {M : jv_M} {σ : jk_A} (hG : jk_G G σ) {τ : Nat → Nat} {xa b pa ip rp : Nat} {sv : Option Nat} {eA_ fA_ : Int32} {S : Nat → Nat} (hx : M xa = some (.inr (0, [.ref b, .ref pa, .ref ip, .ref rp, va_rf sv,   .int eA_, .int fA_]))) (hB : jbd G M τ b S) (hS : wfS S) (hL : wfL S) (hPP : wfP S) (p_ : Int32)  : jv_Ct G l yX0_isRule cX0_isRule 2 (some .boolean) 1 0 0 22 [.ref xa, .int p_] M (jv_qi G (jv_pi (bI (v_isRule S p_)) M)) := by
  refine jv_Ct.of (lv := [(0, .ref xa), (1, .int p_)]) (by decide) (Nat.le_of_ble_eq_true rfl) rfl ?_
  intro x Q_ hl_ hQ X
  subst hl_
  have hB_ := hB
  obtain ⟨lp, lr, la, P, R, A, hb, hfb, ⟨⟨mp_, ep, fp, hlp, hep, hn6, hfp, -, -, -⟩, hP⟩, ⟨⟨mr_, er, fr_, hlr, her, hn30, hfr_, -, -, -⟩, hR⟩, ⟨ma_, ea, fa, hla, hea, hn6a, hfa, -, -, -⟩, hA⟩ := hB
  have hW := hS.1
  have hp0 := hW.p
  have hr0 := hW.r
  have ha0 := hW.a
  refine jv_iload_n X dX0_isRule_0 1 rfl ?_
  refine jv_iconst (v := nI 0) X dX0_isRule_1 rfl ?_
  refine jv_aload_n X dX0_isRule_2 0 rfl ?_
  refine jv_get X dX0_isRule_3 hx (T := TX0) (N := 7) (C := RX0) rfl in_X0 0 (by decide) q257 rfl rfl ?_
  refine jv_getN X dX0_isRule_6 hb (T := TX1) (N := 3) (C := RX1) rfl in_X1 1 (by decide) q188 rfl rfl ?_
  refine jv_ask (jv_runV (As := []) (rest := [.int (nI 0), .int p_]) X dX0_isRule_9 (c_J2_size hlr) (lw_V q283 q284 q285 q94 q286) hd_J2_size hlr rfl (Nat.le_of_ble_eq_true rfl) (Nat.le_of_ble_eq_true rfl) (Nat.le_of_ble_eq_true rfl) (Nat.le_of_ble_eq_true rfl) rfl (Nat.le_of_ble_eq_true rfl)) ?_
  refine jv_iconst (v := nI 1) X dX0_isRule_12 rfl ?_
  refine jv_isub (w := nI (S 1) - nI 1) X dX0_isRule_13 rfl ?_
  refine jv_ask (jv_runS (As := [.int p_, .int (nI 0), .int (nI (S 1) - nI 1)]) (rest := []) X dX0_isRule_14 (c_X0_isIn p_ (nI 0) (nI (S 1) - nI 1)) (lw_S q516 q517 q90 q518) hd_X0_isIn (Nat.le_of_ble_eq_true rfl) (Nat.le_of_ble_eq_true rfl) (Nat.le_of_ble_eq_true rfl) (Nat.le_of_ble_eq_true rfl) rfl (Nat.le_of_ble_eq_true rfl)) ?_
  exact jv_iret (v := bI (v_in p_ (nI 0) (nI (S 1) - nI 1))) X dX0_isRule_17 (bI_nar _) hQ (Nat.le_of_ble_eq_true rfl) (Nat.le_of_ble_eq_true rfl) ⟨rfl, rfl⟩
theorem hd_X0_isVersion : jv_dd yX0_isVersion 2 := by unfold jv_dd; decide +kernel
set_option maxHeartbeats 4000000 in
theorem c_X0_isVersion {l : Launch} {G : jv_G} {M : jv_M} {σ : jk_A} (hG : jk_G G σ) {τ : Nat → Nat} {xa b pa ip rp : Nat} {sv : Option Nat} {eA_ fA_ : Int32} {S : Nat → Nat} (hx : M xa = some (.inr (0, [.ref b, .ref pa, .ref ip, .ref rp, va_rf sv,   .int eA_, .int fA_]))) (hB : jbd G M τ b S) (hS : wfS S) (hL : wfL S) (hPP : wfP S) (p_ : Int32) (v_ : Int32)  : jv_Ct G l yX0_isVersion cX0_isVersion 3 (some .boolean) 3 0 0 64 [.ref xa, .int p_, .int v_] M (jv_qi G (jv_pi (bI (v_isVersion S p_ v_)) M)) := by
  refine jv_Ct.of (lv := [(0, .ref xa), (1, .int p_), (2, .int v_)]) (by decide) (Nat.le_of_ble_eq_true rfl) rfl ?_
  intro x Q_ hl_ hQ X
  subst hl_
  have hB_ := hB
  obtain ⟨lp, lr, la, P, R, A, hb, hfb, ⟨⟨mp_, ep, fp, hlp, hep, hn6, hfp, -, -, -⟩, hP⟩, ⟨⟨mr_, er, fr_, hlr, her, hn30, hfr_, -, -, -⟩, hR⟩, ⟨ma_, ea, fa, hla, hea, hn6a, hfa, -, -, -⟩, hA⟩ := hB
  have hW := hS.1
  have hp0 := hW.p
  have hr0 := hW.r
  have ha0 := hW.a
  refine jv_aload_n X dX0_isVersion_0 0 rfl ?_
  refine jv_iload_n X dX0_isVersion_1 1 rfl ?_
  refine jv_ask (jv_runV (As := [.int p_]) (rest := []) X dX0_isVersion_2 (c_X0_isPack hG hx hB_ hS hL hPP p_) (lw_V q512 q514 qs7 q90 q515) hd_X0_isPack hx rfl (Nat.le_of_ble_eq_true rfl) (Nat.le_of_ble_eq_true rfl) (Nat.le_of_ble_eq_true rfl) (Nat.le_of_ble_eq_true rfl) rfl (Nat.le_of_ble_eq_true rfl)) ?_
  refine jb_if_eq 42 X dX0_isVersion_5 (by decide) (fun c5 => ?_) (fun c5 => ?_)
  · skip
    refine jv_iconst (v := nI 0) X dX0_isVersion_42 rfl ?_
    exact jv_iret (v := bI false) X dX0_isVersion_43 (bI_nar _) hQ (Nat.le_of_ble_eq_true rfl) (Nat.le_of_ble_eq_true rfl) ⟨(congrArg bI (by unfold v_isVersion; rw [if_neg (by rw [c5]; decide)])), rfl⟩
  · skip
    have hq_p_ : nI (p_.toNatClampNeg) = p_ := (v_isPack_n hW c5).2
    refine jv_to (lv' := [(0, .ref xa), (1, .int (nI p_.toNatClampNeg)), (2, .int v_)]) (st' := []) (by rw [hq_p_]) rfl ?_
    have hpn_ := v_isPack_n hW c5
    refine jv_iload_n X dX0_isVersion_8 2 rfl ?_
    refine jv_iconst (v := nI 0) X dX0_isVersion_9 rfl ?_
    refine jv_aload_n X dX0_isVersion_10 0 rfl ?_
    refine jv_get X dX0_isVersion_11 hx (T := TX0) (N := 7) (C := RX0) rfl in_X0 0 (by decide) q257 rfl rfl ?_
    refine jv_getN X dX0_isVersion_14 hb (T := TX1) (N := 3) (C := RX1) rfl in_X1 0 (by decide) q183 rfl rfl ?_
    refine jv_iload_n X dX0_isVersion_17 1 rfl ?_
    refine jv_callr (jv_runV (As := [.int (nI p_.toNatClampNeg)]) (rest := [.int (nI 0), .int v_]) X dX0_isVersion_18 (c_J2_get hlp hep p_.toNatClampNeg (P p_.toNatClampNeg) (by omega) (by omega) (by omega) (by rw [hfp _ (by omega)]; rfl)) (lw_V q532 q533 q534 q94 q535) hd_J2_get hlp rfl (Nat.le_of_ble_eq_true rfl) (Nat.le_of_ble_eq_true rfl) (Nat.le_of_ble_eq_true rfl) (Nat.le_of_ble_eq_true rfl) rfl (Nat.le_of_ble_eq_true rfl)) (fun rr_ M_ h_ => ?_)
    obtain ⟨hr_, hm_⟩ := h_
    rw [hr_, hm_]
    clear hr_ hm_
    obtain ⟨lv_2, V_2, hpk_2, -, ⟨mv_2, ev_2, fv_2, hlv_2, hev_2, hnv_2, hfv_2, -, -, -⟩, hvv_2⟩ := hP p_.toNatClampNeg (by omega)
    have hnv5_2 := hW.nv (show p_.toNatClampNeg < 6 by omega)
    refine jv_castS X dX0_isVersion_21 hpk_2 (r := (RX3, TX3, 2)) rfl q465 ?_
    refine jv_getN X dX0_isVersion_24 hpk_2 (T := TX3) (N := 2) (C := RX3) rfl in_X3 0 (by decide) q354 rfl rfl ?_
    refine jv_ask (jv_runV (As := []) (rest := [.int (nI 0), .int v_]) X dX0_isVersion_27 (c_J2_size hlv_2) (lw_V q283 q284 q285 q94 q286) hd_J2_size hlv_2 rfl (Nat.le_of_ble_eq_true rfl) (Nat.le_of_ble_eq_true rfl) (Nat.le_of_ble_eq_true rfl) (Nat.le_of_ble_eq_true rfl) rfl (Nat.le_of_ble_eq_true rfl)) ?_
    refine jv_iconst (v := nI 1) X dX0_isVersion_30 rfl ?_
    refine jv_isub (w := nI (v_of S p_.toNatClampNeg 0) - nI 1) X dX0_isVersion_31 rfl ?_
    refine jv_ask (jv_runS (As := [.int v_, .int (nI 0), .int (nI (v_of S p_.toNatClampNeg 0) - nI 1)]) (rest := []) X dX0_isVersion_32 (c_X0_isIn v_ (nI 0) (nI (v_of S p_.toNatClampNeg 0) - nI 1)) (lw_S q516 q517 q90 q518) hd_X0_isIn (Nat.le_of_ble_eq_true rfl) (Nat.le_of_ble_eq_true rfl) (Nat.le_of_ble_eq_true rfl) (Nat.le_of_ble_eq_true rfl) rfl (Nat.le_of_ble_eq_true rfl)) ?_
    refine jb_if_eq 42 X dX0_isVersion_35 (by decide) (fun c35 => ?_) (fun c35 => ?_)
    · skip
      refine jv_iconst (v := nI 0) X dX0_isVersion_42 rfl ?_
      exact jv_iret (v := bI false) X dX0_isVersion_43 (bI_nar _) hQ (Nat.le_of_ble_eq_true rfl) (Nat.le_of_ble_eq_true rfl) ⟨(congrArg bI (by unfold v_isVersion; rw [if_pos c5, c35])), rfl⟩
    · skip
      refine jv_iconst (v := nI 1) X dX0_isVersion_38 rfl ?_
      refine jv_goto 43 X dX0_isVersion_39 (by decide) ?_
      exact jv_iret (v := bI true) X dX0_isVersion_43 (bI_nar _) hQ (Nat.le_of_ble_eq_true rfl) (Nat.le_of_ble_eq_true rfl) ⟨(congrArg bI (by unfold v_isVersion; rw [if_pos c5, c35])), rfl⟩
theorem hd_X0_allAssumptions : jv_dd yX0_allAssumptions 0 := by unfold jv_dd; decide +kernel
set_option maxHeartbeats 4000000 in
theorem c_X0_allAssumptions {l : Launch} {G : jv_G} {M : jv_M} {σ : jk_A} (hG : jk_G G σ) {τ : Nat → Nat} {xa b pa ip rp : Nat} {sv : Option Nat} {eA_ fA_ : Int32} {S : Nat → Nat} (hx : M xa = some (.inr (0, [.ref b, .ref pa, .ref ip, .ref rp, va_rf sv,   .int eA_, .int fA_]))) (hB : jbd G M τ b S) (hS : wfS S) (hL : wfL S) (hPP : wfP S)   : jv_Ct G l yX0_allAssumptions cX0_allAssumptions 1 (some .int) 1 0 0 20 [.ref xa] M (jv_qi G (jv_pi (nI (2 ^ S 2 - 1)) M)) := by
  refine jv_Ct.of (lv := [(0, .ref xa)]) (by decide) (Nat.le_of_ble_eq_true rfl) rfl ?_
  intro x Q_ hl_ hQ X
  subst hl_
  have hB_ := hB
  obtain ⟨lp, lr, la, P, R, A, hb, hfb, ⟨⟨mp_, ep, fp, hlp, hep, hn6, hfp, -, -, -⟩, hP⟩, ⟨⟨mr_, er, fr_, hlr, her, hn30, hfr_, -, -, -⟩, hR⟩, ⟨ma_, ea, fa, hla, hea, hn6a, hfa, -, -, -⟩, hA⟩ := hB
  have hW := hS.1
  have hp0 := hW.p
  have hr0 := hW.r
  have ha0 := hW.a
  refine jv_iconst (v := nI 1) X dX0_allAssumptions_0 rfl ?_
  refine jv_aload_n X dX0_allAssumptions_1 0 rfl ?_
  refine jv_get X dX0_allAssumptions_2 hx (T := TX0) (N := 7) (C := RX0) rfl in_X0 0 (by decide) q257 rfl rfl ?_
  refine jv_getN X dX0_allAssumptions_5 hb (T := TX1) (N := 3) (C := RX1) rfl in_X1 2 (by decide) q193 rfl rfl ?_
  refine jv_ask (jv_runV (As := []) (rest := [.int (nI 1)]) X dX0_allAssumptions_8 (c_J2_size hla) (lw_V q283 q284 q285 q94 q286) hd_J2_size hla rfl (Nat.le_of_ble_eq_true rfl) (Nat.le_of_ble_eq_true rfl) (Nat.le_of_ble_eq_true rfl) (Nat.le_of_ble_eq_true rfl) rfl (Nat.le_of_ble_eq_true rfl)) ?_
  refine jv_ishl (w := nI (2 ^ (S 2))) X dX0_allAssumptions_11 (ni_shl1 (by omega)) ?_
  refine jv_iconst (v := nI 1) X dX0_allAssumptions_12 rfl ?_
  refine jv_isub (w := nI ((2 ^ (S 2)) - 1)) X dX0_allAssumptions_13 (pk_sub (Nat.two_pow_pos _)) ?_
  exact jv_iret (v := nI ((2 ^ (S 2)) - 1)) X dX0_allAssumptions_14 rfl hQ (Nat.le_of_ble_eq_true rfl) (Nat.le_of_ble_eq_true rfl) ⟨rfl, rfl⟩
theorem hd_X0_allRules : jv_dd yX0_allRules 0 := by unfold jv_dd; decide +kernel
set_option maxHeartbeats 4000000 in
theorem c_X0_allRules {l : Launch} {G : jv_G} {M : jv_M} {σ : jk_A} (hG : jk_G G σ) {τ : Nat → Nat} {xa b pa ip rp : Nat} {sv : Option Nat} {eA_ fA_ : Int32} {S : Nat → Nat} (hx : M xa = some (.inr (0, [.ref b, .ref pa, .ref ip, .ref rp, va_rf sv,   .int eA_, .int fA_]))) (hB : jbd G M τ b S) (hS : wfS S) (hL : wfL S) (hPP : wfP S)   : jv_Ct G l yX0_allRules cX0_allRules 1 (some .int) 1 0 0 20 [.ref xa] M (jv_qi G (jv_pi (nI (2 ^ S 1 - 1)) M)) := by
  refine jv_Ct.of (lv := [(0, .ref xa)]) (by decide) (Nat.le_of_ble_eq_true rfl) rfl ?_
  intro x Q_ hl_ hQ X
  subst hl_
  have hB_ := hB
  obtain ⟨lp, lr, la, P, R, A, hb, hfb, ⟨⟨mp_, ep, fp, hlp, hep, hn6, hfp, -, -, -⟩, hP⟩, ⟨⟨mr_, er, fr_, hlr, her, hn30, hfr_, -, -, -⟩, hR⟩, ⟨ma_, ea, fa, hla, hea, hn6a, hfa, -, -, -⟩, hA⟩ := hB
  have hW := hS.1
  have hp0 := hW.p
  have hr0 := hW.r
  have ha0 := hW.a
  refine jv_iconst (v := nI 1) X dX0_allRules_0 rfl ?_
  refine jv_aload_n X dX0_allRules_1 0 rfl ?_
  refine jv_get X dX0_allRules_2 hx (T := TX0) (N := 7) (C := RX0) rfl in_X0 0 (by decide) q257 rfl rfl ?_
  refine jv_getN X dX0_allRules_5 hb (T := TX1) (N := 3) (C := RX1) rfl in_X1 1 (by decide) q188 rfl rfl ?_
  refine jv_ask (jv_runV (As := []) (rest := [.int (nI 1)]) X dX0_allRules_8 (c_J2_size hlr) (lw_V q283 q284 q285 q94 q286) hd_J2_size hlr rfl (Nat.le_of_ble_eq_true rfl) (Nat.le_of_ble_eq_true rfl) (Nat.le_of_ble_eq_true rfl) (Nat.le_of_ble_eq_true rfl) rfl (Nat.le_of_ble_eq_true rfl)) ?_
  refine jv_ishl (w := nI (2 ^ (S 1))) X dX0_allRules_11 (ni_shl1 (by omega)) ?_
  refine jv_iconst (v := nI 1) X dX0_allRules_12 rfl ?_
  refine jv_isub (w := nI ((2 ^ (S 1)) - 1)) X dX0_allRules_13 (pk_sub (Nat.two_pow_pos _)) ?_
  exact jv_iret (v := nI ((2 ^ (S 1)) - 1)) X dX0_allRules_14 rfl hQ (Nat.le_of_ble_eq_true rfl) (Nat.le_of_ble_eq_true rfl) ⟨rfl, rfl⟩
theorem hd_X0_tiesOf : jv_dd yX0_tiesOf 2 := by unfold jv_dd; decide +kernel
set_option maxHeartbeats 4000000 in
theorem c_X0_tiesOf {l : Launch} {G : jv_G} {M : jv_M} {σ : jk_A} (hG : jk_G G σ) {τ : Nat → Nat} {xa b pa ip rp : Nat} {sv : Option Nat} {eA_ fA_ : Int32} {S : Nat → Nat} (hx : M xa = some (.inr (0, [.ref b, .ref pa, .ref ip, .ref rp, va_rf sv,   .int eA_, .int fA_]))) (hB : jbd G M τ b S) (hS : wfS S) (hL : wfL S) (hPP : wfP S) (u : Nat) (w_ : Nat) (hu : u < 2 ^ 31) (hw_ : w_ < 2 ^ 31) : jv_Ct G l yX0_tiesOf cX0_tiesOf 6 (some .int) 8 1 4 260 [.ref xa, .int (nI u), .int (nI w_)] M (jv_qi G (jv_pi (nI (rls S u w_)) M)) := by
  refine jv_Ct.of (lv := [(0, .ref xa), (1, .int (nI u)), (2, .int (nI w_))]) (by decide) (Nat.le_of_ble_eq_true rfl) rfl ?_
  intro x Q_ hl_ hQ X
  subst hl_
  have hB_ := hB
  obtain ⟨lp, lr, la, P, R, A, hb, hfb, ⟨⟨mp_, ep, fp, hlp, hep, hn6, hfp, -, -, -⟩, hP⟩, ⟨⟨mr_, er, fr_, hlr, her, hn30, hfr_, -, -, -⟩, hR⟩, ⟨ma_, ea, fa, hla, hea, hn6a, hfa, -, -, -⟩, hA⟩ := hB
  have hW := hS.1
  have hp0 := hW.p
  have hr0 := hW.r
  have ha0 := hW.a
  refine jv_iconst (v := nI 0) X dX0_tiesOf_0 rfl ?_
  refine jv_istore_n (lv' := [(3, .int (nI 0)), (0, .ref xa), (1, .int (nI u)), (2, .int (nI w_))]) X dX0_tiesOf_1 rfl (by decide) rfl ?_
  refine jv_aload_n X dX0_tiesOf_2 1 rfl ?_
  refine jv_get X dX0_tiesOf_3 hx (T := TX0) (N := 7) (C := RX0) rfl in_X0 0 (by decide) q257 rfl rfl ?_
  refine jv_getN X dX0_tiesOf_6 hb (T := TX1) (N := 3) (C := RX1) rfl in_X1 1 (by decide) q188 rfl rfl ?_
  refine jv_callr (jv_runV (As := []) (rest := []) X dX0_tiesOf_9 (c_J2_iterator hlr) (lw_V q621 q294 q295 q94 q296) hd_J2_iterator hlr rfl (Nat.le_of_ble_eq_true rfl) (Nat.le_of_ble_eq_true rfl) (by omega) (by omega) rfl (Nat.le_of_ble_eq_true rfl)) (fun q_1 M_ h_ => ?_)
  obtain ⟨hnq_1, hbq_1, hm_⟩ := h_
  rw [hm_]
  clear hm_
  refine jv_astore (lv' := [(4, .ref q_1), (3, .int (nI 0)), (0, .ref xa), (1, .int (nI u)), (2, .int (nI w_))]) X dX0_tiesOf_12 (by decide) rfl ?_
  have lp14_2 : ∀ (d_14 : Nat) (i : Nat) (lr_ : Int32) (w : Nat), i ≤ S 1 → w = rlsN S u w_ i → S 1 - i < d_14 → jv_J x G 6 Q_ (jv_up M q_1 (.inr (24, [.int (nI i), .int lr_, .int mr_, .ref lr]))) 1 4 14 [(0, .ref xa), (1, .int (nI u)), (2, .int (nI w_)), (4, .ref q_1), (3, .int (nI w))] [] := by
    intro d_14
    induction d_14 with
    | zero => intro i lr_ w hi5 hw hm_14; exact absurd hm_14 (Nat.not_lt_zero _)
    | succ d_14 ih_14 =>
      intro i lr_ w hi5 hw hm_14
      refine jv_aload X dX0_tiesOf_14 3 rfl ?_
      refine jv_askF (jv_runF (xm := jx_hasNext) (As := []) (rest := []) X dX0_tiesOf_16 (hG.f X).2.2.2.2.2.1 (c_J8_hasNext jv_up_s ((jag.new jag.rf hnq_1).c hlr) (by omega) (by omega)) (lw_F q623 q321 q323 q101 q325) hd_jx_hasNext jv_up_s rfl (Nat.le_of_ble_eq_true rfl) (Nat.le_of_ble_eq_true rfl) (Nat.le_of_ble_eq_true rfl) (Nat.le_of_ble_eq_true rfl) rfl (Nat.le_of_ble_eq_true rfl)) ?_
      refine jb_if_eq 57 X dX0_tiesOf_21 (by decide) (fun c21 => ?_) (fun c21 => ?_)
      · skip
        have hne_ := hn_f c21
        refine jv_iload_n X dX0_tiesOf_57 4 rfl ?_
        refine jv_fewer (jag.few (jag.new jag.rf hnq_1)) ?_
        exact jv_iret (v := nI w) X dX0_tiesOf_58 rfl hQ (Nat.le_of_ble_eq_true rfl) (Nat.le_of_ble_eq_true rfl) ⟨(by rw [hw, show i = S 1 by omega]; rfl), rfl⟩
      · skip
        have hne_ := hn_t c21
        refine jv_aload X dX0_tiesOf_24 3 rfl ?_
        refine jv_callFr (jv_runF (xm := jx_next) (As := []) (rest := []) X dX0_tiesOf_26 (hG.f X).2.2.2.2.2.2.1 (c_J8_next jv_up_s ((jag.new jag.rf hnq_1).c hlr) ((jag.new jag.rf hnq_1).c her) (R i) hbq_1 (by omega) (by omega) (by omega) (by rw [hfr_ _ (by omega)]; rfl)) (lw_F q625 q330 q332 q101 q334) hd_jx_next jv_up_s rfl (Nat.le_of_ble_eq_true rfl) (Nat.le_of_ble_eq_true rfl) (Nat.le_of_ble_eq_true rfl) (Nat.le_of_ble_eq_true rfl) rfl (Nat.le_of_ble_eq_true rfl)) (fun rr_ M_ h_ => ?_)
        obtain ⟨hr_, hm_⟩ := h_
        rw [hr_, hm_]
        clear hr_ hm_
        rw [jv_up_up]
        refine jr_cast X dX0_tiesOf_31 q626 ((hR i (by omega)).sub (jag.new jag.rf hnq_1)) ?_
        refine jv_astore (lv' := [(5, .ref (R i)), (0, .ref xa), (1, .int (nI u)), (2, .int (nI w_)), (4, .ref q_1), (3, .int (nI w))]) X dX0_tiesOf_34 (by decide) rfl ?_
        refine jv_iload_n X dX0_tiesOf_36 5 rfl ?_
        refine jv_aload X dX0_tiesOf_37 0 rfl ?_
        refine jv_iload_n X dX0_tiesOf_39 2 rfl ?_
        refine jv_iload_n X dX0_tiesOf_40 3 rfl ?_
        refine jv_ask (jr_isOf (rest := [.int (nI w)]) X dX0_tiesOf_41 q627 ((hR i (by omega)).sub (jag.new jag.rf hnq_1)) hW (by omega) u w_ hu hw_ (Nat.le_of_ble_eq_true rfl) (Nat.le_of_ble_eq_true rfl) (Nat.le_of_ble_eq_true rfl) (Nat.le_of_ble_eq_true rfl) (Nat.le_of_ble_eq_true rfl)) ?_
        have j52_3 : ∀ wx : Nat, wx = (if (rIs S i u w_) = true then 1 else 0) → jv_J x G 6 Q_ (jv_up M q_1 (.inr (24, [.int (nI (i + 1)), .int (nI i), .int mr_, .ref lr]))) 1 4 52 [(5, .ref (R i)), (0, .ref xa), (1, .int (nI u)), (2, .int (nI w_)), (4, .ref q_1), (3, .int (nI w))] [.int (nI wx), .int (nI w)] := by
          intro wx e_wx
          refine jv_iadd (w := nI (w + wx)) X dX0_tiesOf_52 (nI_add _ _) ?_
          refine jv_istore_n (lv' := [(3, .int (nI (w + wx))), (5, .ref (R i)), (0, .ref xa), (1, .int (nI u)), (2, .int (nI w_)), (4, .ref q_1)]) X dX0_tiesOf_53 rfl (by decide) rfl ?_
          refine jv_goto 14 X dX0_tiesOf_54 (by decide) ?_
          refine jv_lv (lv' := [(0, .ref xa), (1, .int (nI u)), (2, .int (nI w_)), (4, .ref q_1), (3, .int (nI (w + wx)))]) [2, 3, 4, 5, 0] rfl ?_
          exact ih_14 (i + 1) (nI i) (w + wx) (by omega) (by rw [hw, e_wx, rls_s]; rfl) (by omega)
        refine jb_if_eq 51 X dX0_tiesOf_44 (by decide) (fun c44 => ?_) (fun c44 => ?_)
        · skip
          refine jv_iconst (v := nI 0) X dX0_tiesOf_51 rfl ?_
          exact j52_3 _ (if_neg (Bool.eq_false_iff.mp c44)).symm
        · skip
          refine jv_iconst (v := nI 1) X dX0_tiesOf_47 rfl ?_
          refine jv_goto 52 X dX0_tiesOf_48 (by decide) ?_
          exact j52_3 _ (if_pos c44).symm
  refine jv_lv (lv' := [(0, .ref xa), (1, .int (nI u)), (2, .int (nI w_)), (4, .ref q_1), (3, .int (nI 0))]) [2, 3, 4, 0, 1] rfl ?_
  exact lp14_2 (S 1 + 1) 0 (-1) 0 (Nat.zero_le _) rfl (by omega)
theorem hd_X0_learnedRules : jv_dd yX0_learnedRules 0 := by unfold jv_dd; decide +kernel
set_option maxHeartbeats 4000000 in
theorem c_X0_learnedRules {l : Launch} {G : jv_G} {M : jv_M} {σ : jk_A} (hG : jk_G G σ) {τ : Nat → Nat} {xa b pa ip rp : Nat} {sv : Option Nat} {eA_ fA_ : Int32} {S : Nat → Nat} (hx : M xa = some (.inr (0, [.ref b, .ref pa, .ref ip, .ref rp, va_rf sv,   .int eA_, .int fA_]))) (hB : jbd G M τ b S) (hS : wfS S) (hL : wfL S) (hPP : wfP S)   : jv_Ct G l yX0_learnedRules cX0_learnedRules 4 (some .int) 8 1 4 260 [.ref xa] M (jv_qi G (jv_pi (nI (lruN S (S 1))) M)) := by
  refine jv_Ct.of (lv := [(0, .ref xa)]) (by decide) (Nat.le_of_ble_eq_true rfl) rfl ?_
  intro x Q_ hl_ hQ X
  subst hl_
  have hB_ := hB
  obtain ⟨lp, lr, la, P, R, A, hb, hfb, ⟨⟨mp_, ep, fp, hlp, hep, hn6, hfp, -, -, -⟩, hP⟩, ⟨⟨mr_, er, fr_, hlr, her, hn30, hfr_, -, -, -⟩, hR⟩, ⟨ma_, ea, fa, hla, hea, hn6a, hfa, -, -, -⟩, hA⟩ := hB
  have hW := hS.1
  have hp0 := hW.p
  have hr0 := hW.r
  have ha0 := hW.a
  refine jv_iconst (v := nI 0) X dX0_learnedRules_0 rfl ?_
  refine jv_istore_n (lv' := [(1, .int (nI 0)), (0, .ref xa)]) X dX0_learnedRules_1 rfl (by decide) rfl ?_
  refine jv_aload_n X dX0_learnedRules_2 1 rfl ?_
  refine jv_get X dX0_learnedRules_3 hx (T := TX0) (N := 7) (C := RX0) rfl in_X0 0 (by decide) q257 rfl rfl ?_
  refine jv_getN X dX0_learnedRules_6 hb (T := TX1) (N := 3) (C := RX1) rfl in_X1 1 (by decide) q188 rfl rfl ?_
  refine jv_callr (jv_runV (As := []) (rest := []) X dX0_learnedRules_9 (c_J2_iterator hlr) (lw_V q621 q294 q295 q94 q296) hd_J2_iterator hlr rfl (Nat.le_of_ble_eq_true rfl) (Nat.le_of_ble_eq_true rfl) (by omega) (by omega) rfl (Nat.le_of_ble_eq_true rfl)) (fun q_1 M_ h_ => ?_)
  obtain ⟨hnq_1, hbq_1, hm_⟩ := h_
  rw [hm_]
  clear hm_
  refine jv_astore_n (lv' := [(2, .ref q_1), (1, .int (nI 0)), (0, .ref xa)]) X dX0_learnedRules_12 rfl (by decide) rfl ?_
  have lp13_2 : ∀ (d_13 : Nat) (i : Nat) (lr_ : Int32) (w : Nat), i ≤ S 1 → w = lruN S i → S 1 - i < d_13 → jv_J x G 4 Q_ (jv_up M q_1 (.inr (24, [.int (nI i), .int lr_, .int mr_, .ref lr]))) 1 4 13 [(0, .ref xa), (2, .ref q_1), (1, .int (nI w))] [] := by
    intro d_13
    induction d_13 with
    | zero => intro i lr_ w hi5 hw hm_13; exact absurd hm_13 (Nat.not_lt_zero _)
    | succ d_13 ih_13 =>
      intro i lr_ w hi5 hw hm_13
      refine jv_aload_n X dX0_learnedRules_13 1 rfl ?_
      refine jv_askF (jv_runF (xm := jx_hasNext) (As := []) (rest := []) X dX0_learnedRules_14 (hG.f X).2.2.2.2.2.1 (c_J8_hasNext jv_up_s ((jag.new jag.rf hnq_1).c hlr) (by omega) (by omega)) (lw_F q623 q321 q323 q101 q325) hd_jx_hasNext jv_up_s rfl (Nat.le_of_ble_eq_true rfl) (Nat.le_of_ble_eq_true rfl) (Nat.le_of_ble_eq_true rfl) (Nat.le_of_ble_eq_true rfl) rfl (Nat.le_of_ble_eq_true rfl)) ?_
      refine jb_if_eq 51 X dX0_learnedRules_19 (by decide) (fun c19 => ?_) (fun c19 => ?_)
      · skip
        have hne_ := hn_f c19
        refine jv_iload_n X dX0_learnedRules_51 2 rfl ?_
        refine jv_fewer (jag.few (jag.new jag.rf hnq_1)) ?_
        exact jv_iret (v := nI w) X dX0_learnedRules_52 rfl hQ (Nat.le_of_ble_eq_true rfl) (Nat.le_of_ble_eq_true rfl) ⟨(by rw [hw, show i = S 1 by omega]), rfl⟩
      · skip
        have hne_ := hn_t c19
        refine jv_aload_n X dX0_learnedRules_22 1 rfl ?_
        refine jv_callFr (jv_runF (xm := jx_next) (As := []) (rest := []) X dX0_learnedRules_23 (hG.f X).2.2.2.2.2.2.1 (c_J8_next jv_up_s ((jag.new jag.rf hnq_1).c hlr) ((jag.new jag.rf hnq_1).c her) (R i) hbq_1 (by omega) (by omega) (by omega) (by rw [hfr_ _ (by omega)]; rfl)) (lw_F q625 q330 q332 q101 q334) hd_jx_next jv_up_s rfl (Nat.le_of_ble_eq_true rfl) (Nat.le_of_ble_eq_true rfl) (Nat.le_of_ble_eq_true rfl) (Nat.le_of_ble_eq_true rfl) rfl (Nat.le_of_ble_eq_true rfl)) (fun rr_ M_ h_ => ?_)
        obtain ⟨hr_, hm_⟩ := h_
        rw [hr_, hm_]
        clear hr_ hm_
        rw [jv_up_up]
        refine jr_cast X dX0_learnedRules_28 q626 ((hR i (by omega)).sub (jag.new jag.rf hnq_1)) ?_
        refine jv_astore_n (lv' := [(3, .ref (R i)), (0, .ref xa), (2, .ref q_1), (1, .int (nI w))]) X dX0_learnedRules_31 rfl (by decide) rfl ?_
        refine jv_iload_n X dX0_learnedRules_32 3 rfl ?_
        refine jv_aload_n X dX0_learnedRules_33 0 rfl ?_
        refine jv_ask (jr_kind (rest := [.int (nI w)]) X dX0_learnedRules_34 q1409 ((hR i (by omega)).sub (jag.new jag.rf hnq_1)) (Nat.le_of_ble_eq_true rfl) (Nat.le_of_ble_eq_true rfl) (Nat.le_of_ble_eq_true rfl) (Nat.le_of_ble_eq_true rfl) (Nat.le_of_ble_eq_true rfl)) ?_
        refine jv_iconst (v := nI 3) X dX0_learnedRules_37 rfl ?_
        have j46_3 : ∀ wx : Nat, wx = (if (v_ofRule S i 0) = 3 then 1 else 0) → jv_J x G 4 Q_ (jv_up M q_1 (.inr (24, [.int (nI (i + 1)), .int (nI i), .int mr_, .ref lr]))) 1 4 46 [(3, .ref (R i)), (0, .ref xa), (2, .ref q_1), (1, .int (nI w))] [.int (nI wx), .int (nI w)] := by
          intro wx e_wx
          refine jv_iadd (w := nI (w + wx)) X dX0_learnedRules_46 (nI_add _ _) ?_
          refine jv_istore_n (lv' := [(1, .int (nI (w + wx))), (3, .ref (R i)), (0, .ref xa), (2, .ref q_1)]) X dX0_learnedRules_47 rfl (by decide) rfl ?_
          refine jv_goto 13 X dX0_learnedRules_48 (by decide) ?_
          refine jv_lv (lv' := [(0, .ref xa), (2, .ref q_1), (1, .int (nI (w + wx)))]) [2, 3, 0] rfl ?_
          exact ih_13 (i + 1) (nI i) (w + wx) (by omega) (by rw [hw, e_wx]; rfl) (by omega)
        refine jn_icmp_ne 45 X dX0_learnedRules_38 (by decide) (by have := hW.rk (show i < 30 by omega); omega) (by decide) (fun c38 => ?_) (fun c38 => ?_)
        · skip
          refine jv_iconst (v := nI 0) X dX0_learnedRules_45 rfl ?_
          exact j46_3 _ (if_neg c38).symm
        · skip
          refine jv_iconst (v := nI 1) X dX0_learnedRules_41 rfl ?_
          refine jv_goto 46 X dX0_learnedRules_42 (by decide) ?_
          exact j46_3 _ (if_pos c38).symm
  refine jv_lv (lv' := [(0, .ref xa), (2, .ref q_1), (1, .int (nI 0))]) [2, 0, 1] rfl ?_
  exact lp13_2 (S 1 + 1) 0 (-1) 0 (Nat.zero_le _) rfl (by omega)
theorem hd_X0_inPacks : jv_dd yX0_inPacks 1 := by unfold jv_dd; decide +kernel
set_option maxHeartbeats 4000000 in
theorem c_X0_inPacks {l : Launch} {G : jv_G} {M : jv_M} {σ : jk_A} (hG : jk_G G σ) {τ : Nat → Nat} {xa b pa ip rp : Nat} {sv : Option Nat} {eA_ fA_ : Int32} {S : Nat → Nat} (hx : M xa = some (.inr (0, [.ref b, .ref pa, .ref ip, .ref rp, va_rf sv,   .int eA_, .int fA_]))) (hB : jbd G M τ b S) (hS : wfS S) (hL : wfL S) (hPP : wfP S) (bb : Bool)  : jv_Ct G l yX0_inPacks cX0_inPacks 5 (some .int) 3 1 4 71 [.ref xa, .int (bI bb)] M (jv_qi G (jv_pi (nI (sumN S (gA S) (if bb = true then 0 else 1) (S 0))) M)) := by
  refine jv_Ct.of (lv := [(0, .ref xa), (1, .int (bI bb))]) (by decide) (Nat.le_of_ble_eq_true rfl) rfl ?_
  intro x Q_ hl_ hQ X
  subst hl_
  have hB_ := hB
  obtain ⟨lp, lr, la, P, R, A, hb, hfb, ⟨⟨mp_, ep, fp, hlp, hep, hn6, hfp, -, -, -⟩, hP⟩, ⟨⟨mr_, er, fr_, hlr, her, hn30, hfr_, -, -, -⟩, hR⟩, ⟨ma_, ea, fa, hla, hea, hn6a, hfa, -, -, -⟩, hA⟩ := hB
  have hW := hS.1
  have hp0 := hW.p
  have hr0 := hW.r
  have ha0 := hW.a
  refine jv_iconst (v := nI 0) X dX0_inPacks_0 rfl ?_
  refine jv_istore_n (lv' := [(2, .int (nI 0)), (0, .ref xa), (1, .int (bI bb))]) X dX0_inPacks_1 rfl (by decide) rfl ?_
  refine jv_aload_n X dX0_inPacks_2 1 rfl ?_
  refine jv_get X dX0_inPacks_3 hx (T := TX0) (N := 7) (C := RX0) rfl in_X0 0 (by decide) q257 rfl rfl ?_
  refine jv_getN X dX0_inPacks_6 hb (T := TX1) (N := 3) (C := RX1) rfl in_X1 0 (by decide) q183 rfl rfl ?_
  refine jv_callr (jv_runV (As := []) (rest := []) X dX0_inPacks_9 (c_J2_iterator hlp) (lw_V q621 q294 q295 q94 q296) hd_J2_iterator hlp rfl (Nat.le_of_ble_eq_true rfl) (Nat.le_of_ble_eq_true rfl) (by omega) (by omega) rfl (Nat.le_of_ble_eq_true rfl)) (fun q_1 M_ h_ => ?_)
  obtain ⟨hnq_1, hbq_1, hm_⟩ := h_
  rw [hm_]
  clear hm_
  refine jv_astore_n (lv' := [(3, .ref q_1), (2, .int (nI 0)), (0, .ref xa), (1, .int (bI bb))]) X dX0_inPacks_12 rfl (by decide) rfl ?_
  have lp13_2 : ∀ (d_13 : Nat) (i : Nat) (lr_ : Int32) (w : Nat), i ≤ S 0 → w = sumN S (gA S) (if bb = true then 0 else 1) i → S 0 - i < d_13 → jv_J x G 5 Q_ (jv_up M q_1 (.inr (24, [.int (nI i), .int lr_, .int mp_, .ref lp]))) 1 4 13 [(0, .ref xa), (1, .int (bI bb)), (3, .ref q_1), (2, .int (nI w))] [] := by
    intro d_13
    induction d_13 with
    | zero => intro i lr_ w hi5 hw hm_13; exact absurd hm_13 (Nat.not_lt_zero _)
    | succ d_13 ih_13 =>
      intro i lr_ w hi5 hw hm_13
      refine jv_aload_n X dX0_inPacks_13 2 rfl ?_
      refine jv_askF (jv_runF (xm := jx_hasNext) (As := []) (rest := []) X dX0_inPacks_14 (hG.f X).2.2.2.2.2.1 (c_J8_hasNext jv_up_s ((jag.new jag.rf hnq_1).c hlp) (by omega) (by omega)) (lw_F q623 q321 q323 q101 q325) hd_jx_hasNext jv_up_s rfl (Nat.le_of_ble_eq_true rfl) (Nat.le_of_ble_eq_true rfl) (Nat.le_of_ble_eq_true rfl) (Nat.le_of_ble_eq_true rfl) rfl (Nat.le_of_ble_eq_true rfl)) ?_
      refine jb_if_eq 67 X dX0_inPacks_19 (by decide) (fun c19 => ?_) (fun c19 => ?_)
      · skip
        have hne_ := hn_f c19
        refine jv_iload_n X dX0_inPacks_67 3 rfl ?_
        refine jv_fewer (jag.few (jag.new jag.rf hnq_1)) ?_
        exact jv_iret (v := nI w) X dX0_inPacks_68 rfl hQ (Nat.le_of_ble_eq_true rfl) (Nat.le_of_ble_eq_true rfl) ⟨(by rw [hw, show i = S 0 by omega]), rfl⟩
      · skip
        have hne_ := hn_t c19
        refine jv_aload_n X dX0_inPacks_22 2 rfl ?_
        refine jv_callFr (jv_runF (xm := jx_next) (As := []) (rest := []) X dX0_inPacks_23 (hG.f X).2.2.2.2.2.2.1 (c_J8_next jv_up_s ((jag.new jag.rf hnq_1).c hlp) ((jag.new jag.rf hnq_1).c hep) (P i) hbq_1 (by omega) (by omega) (by omega) (by rw [hfp _ (by omega)]; rfl)) (lw_F q625 q330 q332 q101 q334) hd_jx_next jv_up_s rfl (Nat.le_of_ble_eq_true rfl) (Nat.le_of_ble_eq_true rfl) (Nat.le_of_ble_eq_true rfl) (Nat.le_of_ble_eq_true rfl) rfl (Nat.le_of_ble_eq_true rfl)) (fun rr_ M_ h_ => ?_)
        obtain ⟨hr_, hm_⟩ := h_
        rw [hr_, hm_]
        clear hr_ hm_
        rw [jv_up_up]
        obtain ⟨lv_3, V_3, hpk_3, -, ⟨mv_3, ev_3, fv_3, hlv_3, hev_3, hnv_3, hfv_3, -, -, -⟩, hvv_3⟩ := hP i (by omega)
        have hnv5_3 := hW.nv (show i < 6 by omega)
        refine jv_castS X dX0_inPacks_28 ((jag.new jag.rf hnq_1).c hpk_3) (r := (RX3, TX3, 2)) rfl q465 ?_
        refine jv_astore (lv' := [(4, .ref (P i)), (0, .ref xa), (1, .int (bI bb)), (3, .ref q_1), (2, .int (nI w))]) X dX0_inPacks_31 (by decide) rfl ?_
        refine jv_iload_n X dX0_inPacks_33 4 rfl ?_
        refine jv_iload_n X dX0_inPacks_34 2 rfl ?_
        have j62_4 : ∀ wx : Nat, wx = (if bb = true then (v_of S i 0) else (if (v_of S i 1) = 0 then 0 else 1)) → jv_J x G 5 Q_ (jv_up M q_1 (.inr (24, [.int (nI (i + 1)), .int (nI i), .int mp_, .ref lp]))) 1 4 62 [(4, .ref (P i)), (0, .ref xa), (1, .int (bI bb)), (3, .ref q_1), (2, .int (nI w))] [.int (nI wx), .int (nI w)] := by
          intro wx e_wx
          refine jv_iadd (w := nI (w + wx)) X dX0_inPacks_62 (nI_add _ _) ?_
          refine jv_istore_n (lv' := [(2, .int (nI (w + wx))), (4, .ref (P i)), (0, .ref xa), (1, .int (bI bb)), (3, .ref q_1)]) X dX0_inPacks_63 rfl (by decide) rfl ?_
          refine jv_goto 13 X dX0_inPacks_64 (by decide) ?_
          refine jv_lv (lv' := [(0, .ref xa), (1, .int (bI bb)), (3, .ref q_1), (2, .int (nI (w + wx)))]) [2, 3, 4, 0] rfl ?_
          exact ih_13 (i + 1) (nI i) (w + wx) (by omega) (by rw [hw, e_wx, sum_s hW (show i < 6 by omega) (T := gA S)]; rfl) (by omega)
        refine jb_if_eq 49 X dX0_inPacks_35 (by decide) (fun c35 => ?_) (fun c35 => ?_)
        · skip
          refine jv_aload X dX0_inPacks_49 0 rfl ?_
          refine jv_getN X dX0_inPacks_51 ((jag.new jag.rf hnq_1).c hpk_3) (T := TX3) (N := 2) (C := RX3) rfl in_X3 1 (by decide) q356 rfl rfl ?_
          refine jn_if_eq 61 X dX0_inPacks_54 (by decide) (by have := hW.op (show i < 6 by omega); omega) (fun c54 => ?_) (fun c54 => ?_)
          · skip
            refine jv_iconst (v := nI 0) X dX0_inPacks_61 rfl ?_
            exact j62_4 _ ((if_neg (Bool.eq_false_iff.mp c35)).trans (if_pos c54)).symm
          · skip
            refine jv_iconst (v := nI 1) X dX0_inPacks_57 rfl ?_
            refine jv_goto 62 X dX0_inPacks_58 (by decide) ?_
            exact j62_4 _ ((if_neg (Bool.eq_false_iff.mp c35)).trans (if_neg c54)).symm
        · skip
          refine jv_aload X dX0_inPacks_38 0 rfl ?_
          refine jv_getN X dX0_inPacks_40 ((jag.new jag.rf hnq_1).c hpk_3) (T := TX3) (N := 2) (C := RX3) rfl in_X3 0 (by decide) q354 rfl rfl ?_
          refine jv_ask (jv_runV (As := []) (rest := [.int (nI w)]) X dX0_inPacks_43 (c_J2_size ((jag.new jag.rf hnq_1).c hlv_3)) (lw_V q283 q284 q285 q94 q286) hd_J2_size ((jag.new jag.rf hnq_1).c hlv_3) rfl (Nat.le_of_ble_eq_true rfl) (Nat.le_of_ble_eq_true rfl) (by omega) (by omega) rfl (Nat.le_of_ble_eq_true rfl)) ?_
          refine jv_goto 62 X dX0_inPacks_46 (by decide) ?_
          exact j62_4 _ (if_pos c35).symm
  refine jv_lv (lv' := [(0, .ref xa), (1, .int (bI bb)), (3, .ref q_1), (2, .int (nI 0))]) [2, 3, 0, 1] rfl ?_
  exact lp13_2 (S 0 + 1) 0 (-1) 0 (Nat.zero_le _) rfl (by omega)
theorem in4 {u : Int32} (h : v_in u (nI 0) (nI 4) = true) (h0 : ¬ u = nI 0) (h1 : ¬ u = nI 1) (h2 : ¬ u = nI 2) (h3 : ¬ u = nI 3) : u = nI 4 := by
  obtain ⟨a, b⟩ := v_in_up (n := 5) (by decide) (by rw [pk_sub (by decide)]; exact h)
  rcases (by omega : u.toNatClampNeg = 0 ∨ u.toNatClampNeg = 1 ∨ u.toNatClampNeg = 2 ∨ u.toNatClampNeg = 3 ∨ u.toNatClampNeg = 4) with e | e | e | e | e <;> rw [e] at b
  · exact absurd b.symm h0
  · exact absurd b.symm h1
  · exact absurd b.symm h2
  · exact absurd b.symm h3
  · exact b.symm
theorem in3 {u : Int32} (h : v_in u (nI 0) (nI 3) = true) (h0 : ¬ u = nI 0) (h1 : ¬ u = nI 1) (h2 : ¬ u = nI 2) : u = nI 3 := by
  obtain ⟨a, b⟩ := v_in_up (n := 4) (by decide) (by rw [pk_sub (by decide)]; exact h)
  rcases (by omega : u.toNatClampNeg = 0 ∨ u.toNatClampNeg = 1 ∨ u.toNatClampNeg = 2 ∨ u.toNatClampNeg = 3) with e | e | e | e <;> rw [e] at b
  · exact absurd b.symm h0
  · exact absurd b.symm h1
  · exact absurd b.symm h2
  · exact b.symm
theorem cod2X {a b : Bool} (h : ¬ fst2 (nob a) (bad_ b) = 0) : (a = true → b = true → False) := by
  intro ha hb
  subst ha; subst hb
  exact h (by decide)
theorem ofv_bad {S : Nat → Nat} {p v w : Int32} (h : ¬ fst2 (nob (v_isVersion S p v)) (bad_ (v_in w (nI 0) (nI 4))) = 0) : fst2 (nob (v_isVersion S p v)) (bad_ (v_in w (nI 0) (nI 4))) = m_ofVersion S p v w := by
  unfold m_ofVersion
  by_cases h1 : v_isVersion S p v = true
  · have h2 : ¬ v_in w (nI 0) (nI 4) = true := fun h2 => cod2X h h1 h2
    rw [cod2 (X := 0) h, if_pos h1, if_neg h2, if_pos h1, if_neg (fun z => h2 (by rw [z]; decide)), if_neg (fun z => h2 (by rw [z]; decide)), if_neg (fun z => h2 (by rw [z]; decide)), if_neg (fun z => h2 (by rw [z]; decide)), if_neg (fun z => h2 (by rw [z]; decide))]
  · rw [cod2 (X := 0) h, if_neg h1, if_neg h1]
theorem rul_bad {S : Nat → Nat} {r w : Int32} (h : ¬ fst2 (nob (v_isRule S r)) (bad_ (v_in w (nI 0) (nI 5))) = 0) : fst2 (nob (v_isRule S r)) (bad_ (v_in w (nI 0) (nI 5))) = m_rule S r w := by
  unfold m_rule
  by_cases h1 : v_isRule S r = true
  · have h2 : ¬ v_in w (nI 0) (nI 5) = true := fun h2 => cod2X h h1 h2
    rw [cod2 (X := 0) h, if_pos h1, if_neg h2, if_pos h1, if_neg (fun z => h2 (by rw [z]; decide)), if_neg (fun z => h2 (by rw [z]; decide)), if_neg (fun z => h2 (by rw [z]; decide)), if_neg (fun z => h2 (by rw [z]; decide)), if_neg (fun z => h2 (by rw [z]; decide)), if_neg (fun z => h2 (by rw [z]; decide))]
  · rw [cod2 (X := 0) h, if_neg h1, if_neg h1]
theorem in5 {u : Int32} (h : v_in u (nI 0) (nI 5) = true) : u = nI 0 ∨ u = nI 1 ∨ u = nI 2 ∨ u = nI 3 ∨ u = nI 4 ∨ u = nI 5 := by
  obtain ⟨a, b⟩ := v_in_up (n := 6) (by decide) (by rw [pk_sub (by decide)]; exact h)
  rcases (by omega : u.toNatClampNeg = 0 ∨ u.toNatClampNeg = 1 ∨ u.toNatClampNeg = 2 ∨ u.toNatClampNeg = 3 ∨ u.toNatClampNeg = 4 ∨ u.toNatClampNeg = 5) with e | e | e | e | e | e <;> rw [e] at b <;> simp [← b]
theorem rul_ok {S : Nat → Nat} (hW : wfB S) {r w : Int32} (h1 : v_isRule S r = true) (h2 : v_in w (nI 0) (nI 5) = true) : rWht S r.toNatClampNeg w = m_rule S r w := by
  have hr := (v_isRule_n hW h1).1
  have hk := hW.rk (r := r.toNatClampNeg) (by have := hW.r; omega)
  unfold m_rule rWht wht
  rw [if_pos h1, pcn_lm]
  rcases (by omega : v_ofRule S r.toNatClampNeg 0 = 0 ∨ v_ofRule S r.toNatClampNeg 0 = 1 ∨ v_ofRule S r.toNatClampNeg 0 = 2 ∨ v_ofRule S r.toNatClampNeg 0 = 3) with e | e | e | e <;> rw [e] <;> rcases in5 h2 with w0 | w0 | w0 | w0 | w0 | w0 <;> rw [w0] <;> rfl
theorem lrd_ok {S : Nat → Nat} {r p : Int32} (h1 : v_isRule S r = true) (h2 : v_isPack S p = true) : rSta S r.toNatClampNeg p.toNatClampNeg = m_learned S r p := by
  unfold m_learned rSta
  rw [if_pos h1, if_pos h2]
  by_cases e : v_ofRule S r.toNatClampNeg 0 = 3
  · rw [if_pos e, if_pos e]
    have h7 := lsd_lt S r.toNatClampNeg p.toNatClampNeg
    generalize lsd S r.toNatClampNeg p.toNatClampNeg = d at *
    rcases (by omega : d = 0 ∨ d = 1 ∨ d = 2 ∨ d = 3 ∨ d = 4 ∨ d = 5 ∨ d = 6) with rfl | rfl | rfl | rfl | rfl | rfl | rfl <;> decide
  · rw [if_neg e, if_neg e, if_pos rfl]
theorem mcov_neg {S : Nat → Nat} (hW : wfB S) {p r : Int32} (h : ¬ 0 ≤ m_covers S p r) : m_latest S p r = m_covers S p r := by
  unfold m_latest m_covers at *
  by_cases a : v_isPack S p = true
  · by_cases b : v_isRange r = true
    · rw [if_pos a, if_pos b] at h
      have := cov_lt hW (p := p.toNatClampNeg) (by have := (v_isPack_n hW a).1; have := hW.p; omega) r.toNatClampNeg
      exact absurd (nI_pos' (by omega)) h
    · rw [if_pos a, if_neg b, if_pos a, if_neg b]
  · rw [if_neg a, if_neg a]
theorem mcov_pos {S : Nat → Nat} {p r : Int32} (h : 0 ≤ m_covers S p r) : v_isPack S p = true ∧ v_isRange r = true := by
  unfold m_covers at h
  by_cases a : v_isPack S p = true
  · by_cases b : v_isRange r = true
    · exact ⟨a, b⟩
    · rw [if_pos a, if_neg b] at h; exact absurd h (by decide)
  · rw [if_neg a] at h; exact absurd h (by decide)
theorem latN_5 {S : Nat → Nat} {p r n : Nat} (h : cov S p r < 2 ^ n) : ∀ d, latN S p r (n + d) = latN S p r n
  | 0 => rfl
  | d + 1 => by
    show (if cov S p r / 2 ^ (n + d) &&& 1 = 1 then _ else latN S p r (n + d)) = latN S p r n
    rw [Nat.div_eq_of_lt (Nat.lt_of_lt_of_le h (Nat.pow_le_pow_right (by decide) (by omega))), if_neg (by decide), latN_5 h d]
theorem cov_bit {S : Nat → Nat} {p r v : Nat} (h : cov S p r / 2 ^ v % 2 = 1) : v < v_of S p 0 := by
  refine Nat.lt_of_not_le fun z => ?_
  have : cov S p r < 2 ^ v_of S p 0 := covN_lt S p r (v_of S p 0)
  rw [Nat.div_eq_of_lt (Nat.lt_of_lt_of_le this (Nat.pow_le_pow_right (by decide) z))] at h
  cases h
theorem latN_neg {S : Nat → Nat} {p r v : Nat} (hv : v < 2 ^ 30) : (latN S p r v < 0 ↔ latN S p r v = -5) := by
  rcases latN_in S p r v hv with h | ⟨j, hj, h⟩
  · rw [h]; decide
  · rw [h]
    constructor
    · intro z; exact absurd z (Int32.not_lt.mpr (nI_pos' (by omega)))
    · intro z
      have h3 := congrArg Int32.toInt z
      rw [nI_toInt (by omega)] at h3
      have : ((-5 : Int32)).toInt = -5 := rfl
      omega
theorem hd_X0_covers : jv_dd yX0_covers 2 := by unfold jv_dd; decide +kernel
set_option maxHeartbeats 4000000 in
theorem c_X0_covers {l : Launch} {G : jv_G} {M : jv_M} {σ : jk_A} (hG : jk_G G σ) {τ : Nat → Nat} {xa b pa ip rp : Nat} {sv : Option Nat} {eA_ fA_ : Int32} {S : Nat → Nat} (hx : M xa = some (.inr (0, [.ref b, .ref pa, .ref ip, .ref rp, va_rf sv,   .int eA_, .int fA_]))) (hB : jbd G M τ b S) (hS : wfS S) (hL : wfL S) (hPP : wfP S) (p_ : Int32) (r_ : Int32)  : jv_Ct G l yX0_covers cX0_covers 4 (some .int) 6 11 40 141 [.ref xa, .int p_, .int r_] M (jv_qi G (jv_pi (m_covers S p_ r_) M)) := by
  refine jv_Ct.of (lv := [(0, .ref xa), (1, .int p_), (2, .int r_)]) (by decide) (Nat.le_of_ble_eq_true rfl) rfl ?_
  intro x Q_ hl_ hQ X
  subst hl_
  have hB_ := hB
  obtain ⟨lp, lr, la, P, R, A, hb, hfb, ⟨⟨mp_, ep, fp, hlp, hep, hn6, hfp, -, -, -⟩, hP⟩, ⟨⟨mr_, er, fr_, hlr, her, hn30, hfr_, -, -, -⟩, hR⟩, ⟨ma_, ea, fa, hla, hea, hn6a, hfa, -, -, -⟩, hA⟩ := hB
  have hW := hS.1
  have hp0 := hW.p
  have hr0 := hW.r
  have ha0 := hW.a
  refine jv_iconst (v := nI 2) X dX0_covers_0 rfl ?_
  refine jv_newi (N := 2) (k1 := 1) (n1 := 2) X dX0_covers_1 q563 (by decide) rfl (by decide) rfl rfl (Nat.le_of_ble_eq_true rfl) (Nat.le_of_ble_eq_true rfl) (fun q_1 hnq_1 hbq_1 => ?_)
  refine jv_dup X dX0_covers_3 rfl ?_
  refine jv_iconst (v := nI 0) X dX0_covers_4 rfl ?_
  refine jv_aload_n X dX0_covers_5 0 rfl ?_
  refine jv_aload_n X dX0_covers_6 0 rfl ?_
  refine jv_iload_n X dX0_covers_7 1 rfl ?_
  refine jv_ask (jv_runV (As := [.int p_]) (rest := [.ref xa, .int (nI 0), .ref q_1, .ref q_1]) X dX0_covers_8 (c_X0_isPack hG ((jag.new jag.rf hnq_1).c hx) (hB_.sub (jag.new jag.rf hnq_1) hp0) hS hL hPP p_) (lw_V q512 q514 qs7 q90 q515) hd_X0_isPack ((jag.new jag.rf hnq_1).c hx) rfl (Nat.le_of_ble_eq_true rfl) (Nat.le_of_ble_eq_true rfl) (by omega) (by omega) rfl (Nat.le_of_ble_eq_true rfl)) ?_
  refine jv_ask (jv_runV (As := [.int (bI (v_isPack S p_))]) (rest := [.int (nI 0), .ref q_1, .ref q_1]) X dX0_covers_11 (c_X0_nobody (v_isPack S p_)) (lw_V q519 q521 qs8 q90 q522) hd_X0_nobody ((jag.new jag.rf hnq_1).c hx) rfl (Nat.le_of_ble_eq_true rfl) (Nat.le_of_ble_eq_true rfl) (by omega) (by omega) rfl (Nat.le_of_ble_eq_true rfl)) ?_
  refine jv_iast (g := upd (fun _ => 0) 0 (nob (v_isPack S p_))) X dX0_covers_14 jv_up_s hbq_1 (jn_in (by decide) (by decide)) (by rw [nI_clamp (by decide)]) ?_
  rw [jv_up_up]
  refine jv_dup X dX0_covers_15 rfl ?_
  refine jv_iconst (v := nI 1) X dX0_covers_16 rfl ?_
  refine jv_iload_n X dX0_covers_17 2 rfl ?_
  refine jv_ask (jv_runS (As := [.int r_]) (rest := [.int (nI 1), .ref q_1, .ref q_1]) X dX0_covers_18 (c_X0_isRange r_) (lw_S q641 q642 q90 q643) hd_X0_isRange (Nat.le_of_ble_eq_true rfl) (Nat.le_of_ble_eq_true rfl) (by omega) (by omega) rfl (Nat.le_of_ble_eq_true rfl)) ?_
  refine jv_ask (jv_runS (As := [.int (bI (v_isRange r_))]) (rest := [.int (nI 1), .ref q_1, .ref q_1]) X dX0_covers_21 (c_X0_bad (v_isRange r_)) (lw_S q526 q527 q90 q528) hd_X0_bad (Nat.le_of_ble_eq_true rfl) (Nat.le_of_ble_eq_true rfl) (by omega) (by omega) rfl (Nat.le_of_ble_eq_true rfl)) ?_
  refine jv_iast (g := upd (upd (fun _ => 0) 0 (nob (v_isPack S p_))) 1 (bad_ (v_isRange r_))) X dX0_covers_24 jv_up_s hbq_1 (jn_in (by decide) (by decide)) (by rw [nI_clamp (by decide)]) ?_
  rw [jv_up_up]
  refine jv_ask (jv_runS (As := [.ref q_1]) (rest := []) X dX0_covers_25 (c_X0_first_2 jv_up_s (nob (v_isPack S p_)) (bad_ (v_isRange r_)) rfl rfl) (lw_S q529 q530 q90 q531) hd_X0_first (Nat.le_of_ble_eq_true rfl) (Nat.le_of_ble_eq_true rfl) (by omega) (by omega) rfl (Nat.le_of_ble_eq_true rfl)) ?_
  refine jv_istore_n (lv' := [(3, .int (fst2 (nob (v_isPack S p_)) (bad_ (v_isRange r_)))), (0, .ref xa), (1, .int p_), (2, .int r_)]) X dX0_covers_28 rfl (by decide) rfl ?_
  refine jv_iload_n X dX0_covers_29 0 rfl ?_
  refine jv_if_eq 37 X dX0_covers_30 (by decide) (fun c30 => ?_) (fun c30 => ?_)
  · skip
    obtain ⟨h1_, h2_⟩ := fst2_0.mp c30
    replace h1_ := nob_0.mp h1_
    replace h2_ := bad_0.mp h2_
    have hpn_ := (v_isPack_n hW h1_).1
    have hrn_ := (v_isRange_n h2_).1
    refine jv_aload_n X dX0_covers_37 1 rfl ?_
    have hq_p_ : nI (p_.toNatClampNeg) = p_ := (v_isPack_n hW h1_).2
    refine jv_to (lv' := [(3, .int (fst2 (nob (v_isPack S p_)) (bad_ (v_isRange r_)))), (0, .ref xa), (1, .int (nI p_.toNatClampNeg)), (2, .int r_)]) (st' := [.ref xa]) (by rw [hq_p_]) rfl ?_
    have hq_r_ : nI (r_.toNatClampNeg) = r_ := (v_isRange_n h2_).2
    refine jv_to (lv' := [(3, .int (fst2 (nob (v_isPack S p_)) (bad_ (v_isRange r_)))), (0, .ref xa), (1, .int (nI p_.toNatClampNeg)), (2, .int (nI r_.toNatClampNeg))]) (st' := [.ref xa]) (by rw [hq_r_]) rfl ?_
    refine jv_get X dX0_covers_38 ((jag.new jag.rf hnq_1).c hx) (T := TX0) (N := 7) (C := RX0) rfl in_X0 0 (by decide) q257 rfl rfl ?_
    refine jv_getN X dX0_covers_41 ((jag.new jag.rf hnq_1).c hb) (T := TX1) (N := 3) (C := RX1) rfl in_X1 0 (by decide) q183 rfl rfl ?_
    refine jv_iload_n X dX0_covers_44 2 rfl ?_
    refine jv_callr (jv_runV (As := [.int (nI p_.toNatClampNeg)]) (rest := []) X dX0_covers_45 (c_J2_get ((jag.new jag.rf hnq_1).c hlp) ((jag.new jag.rf hnq_1).c hep) p_.toNatClampNeg (P p_.toNatClampNeg) (by omega) (by omega) (by omega) (by rw [hfp _ (by omega)]; rfl)) (lw_V q532 q533 q534 q94 q535) hd_J2_get ((jag.new jag.rf hnq_1).c hlp) rfl (Nat.le_of_ble_eq_true rfl) (Nat.le_of_ble_eq_true rfl) (by omega) (by omega) rfl (Nat.le_of_ble_eq_true rfl)) (fun rr_ M_ h_ => ?_)
    obtain ⟨hr_, hm_⟩ := h_
    rw [hr_, hm_]
    clear hr_ hm_
    obtain ⟨lv_3, V_3, hpk_3, -, ⟨mv_3, ev_3, fv_3, hlv_3, hev_3, hnv_3, hfv_3, -, -, -⟩, hvv_3⟩ := hP p_.toNatClampNeg (by omega)
    have hnv5_3 := hW.nv (show p_.toNatClampNeg < 6 by omega)
    refine jv_castS X dX0_covers_48 ((jag.new jag.rf hnq_1).c hpk_3) (r := (RX3, TX3, 2)) rfl q465 ?_
    refine jv_iload_n X dX0_covers_51 3 rfl ?_
    refine jv_ask (jv_runV (As := [.int (nI r_.toNatClampNeg)]) (rest := []) X dX0_covers_52 (c_X3_covers ((hP p_.toNatClampNeg (by omega)).sub (jag.new jag.rf hnq_1)) hW (by omega) r_.toNatClampNeg (by omega)) (lw_V q644 q645 q646 q102 q647) hd_X3_covers ((jag.new jag.rf hnq_1).c hpk_3) rfl (Nat.le_of_ble_eq_true rfl) (Nat.le_of_ble_eq_true rfl) (by omega) (by omega) rfl (Nat.le_of_ble_eq_true rfl)) ?_
    refine jv_fewer (jag.few (jag.new jag.rf hnq_1)) ?_
    exact jv_iret (v := nI (cov S p_.toNatClampNeg r_.toNatClampNeg)) X dX0_covers_55 rfl hQ (Nat.le_of_ble_eq_true rfl) (Nat.le_of_ble_eq_true rfl) ⟨(by unfold m_covers; rw [if_pos h1_, if_pos h2_]), rfl⟩
  · skip
    refine jv_iload_n X dX0_covers_33 0 rfl ?_
    refine jv_goto 55 X dX0_covers_34 (by decide) ?_
    refine jv_fewer (jag.few (jag.new jag.rf hnq_1)) ?_
    exact jv_iret (v := fst2 (nob (v_isPack S p_)) (bad_ (v_isRange r_))) X dX0_covers_55 rfl hQ (Nat.le_of_ble_eq_true rfl) (Nat.le_of_ble_eq_true rfl) ⟨(by rw [cod2 c30]; rfl), rfl⟩
theorem hd_X0_ofVersion : jv_dd yX0_ofVersion 3 := by unfold jv_dd; decide +kernel
set_option maxHeartbeats 4000000 in
theorem c_X0_ofVersion {l : Launch} {G : jv_G} {M : jv_M} {σ : jk_A} (hG : jk_G G σ) {τ : Nat → Nat} {xa b pa ip rp : Nat} {sv : Option Nat} {eA_ fA_ : Int32} {S : Nat → Nat} (hx : M xa = some (.inr (0, [.ref b, .ref pa, .ref ip, .ref rp, va_rf sv,   .int eA_, .int fA_]))) (hB : jbd G M τ b S) (hS : wfS S) (hL : wfL S) (hPP : wfP S) (p_ : Int32) (v_ : Int32) (w_ : Int32)  : jv_Ct G l yX0_ofVersion cX0_ofVersion 6 (some .int) 9 3 30 285 [.ref xa, .int p_, .int v_, .int w_] M (jv_qi G (jv_pi (m_ofVersion S p_ v_ w_) M)) := by
  refine jv_Ct.of (lv := [(0, .ref xa), (1, .int p_), (2, .int v_), (3, .int w_)]) (by decide) (Nat.le_of_ble_eq_true rfl) rfl ?_
  intro x Q_ hl_ hQ X
  subst hl_
  have hB_ := hB
  obtain ⟨lp, lr, la, P, R, A, hb, hfb, ⟨⟨mp_, ep, fp, hlp, hep, hn6, hfp, -, -, -⟩, hP⟩, ⟨⟨mr_, er, fr_, hlr, her, hn30, hfr_, -, -, -⟩, hR⟩, ⟨ma_, ea, fa, hla, hea, hn6a, hfa, -, -, -⟩, hA⟩ := hB
  have hW := hS.1
  have hp0 := hW.p
  have hr0 := hW.r
  have ha0 := hW.a
  refine jv_iconst (v := nI 2) X dX0_ofVersion_0 rfl ?_
  refine jv_newi (N := 2) (k1 := 1) (n1 := 2) X dX0_ofVersion_1 q563 (by decide) rfl (by decide) rfl rfl (Nat.le_of_ble_eq_true rfl) (Nat.le_of_ble_eq_true rfl) (fun q_1 hnq_1 hbq_1 => ?_)
  refine jv_dup X dX0_ofVersion_3 rfl ?_
  refine jv_iconst (v := nI 0) X dX0_ofVersion_4 rfl ?_
  refine jv_aload_n X dX0_ofVersion_5 0 rfl ?_
  refine jv_aload_n X dX0_ofVersion_6 0 rfl ?_
  refine jv_iload_n X dX0_ofVersion_7 1 rfl ?_
  refine jv_iload_n X dX0_ofVersion_8 2 rfl ?_
  refine jv_ask (jv_runV (As := [.int p_, .int v_]) (rest := [.ref xa, .int (nI 0), .ref q_1, .ref q_1]) X dX0_ofVersion_9 (c_X0_isVersion hG ((jag.new jag.rf hnq_1).c hx) (hB_.sub (jag.new jag.rf hnq_1) hp0) hS hL hPP p_ v_) (lw_V q600 q602 qs10 q90 q603) hd_X0_isVersion ((jag.new jag.rf hnq_1).c hx) rfl (Nat.le_of_ble_eq_true rfl) (Nat.le_of_ble_eq_true rfl) (by omega) (by omega) rfl (Nat.le_of_ble_eq_true rfl)) ?_
  refine jv_ask (jv_runV (As := [.int (bI (v_isVersion S p_ v_))]) (rest := [.int (nI 0), .ref q_1, .ref q_1]) X dX0_ofVersion_12 (c_X0_nobody (v_isVersion S p_ v_)) (lw_V q519 q521 qs8 q90 q522) hd_X0_nobody ((jag.new jag.rf hnq_1).c hx) rfl (Nat.le_of_ble_eq_true rfl) (Nat.le_of_ble_eq_true rfl) (by omega) (by omega) rfl (Nat.le_of_ble_eq_true rfl)) ?_
  refine jv_iast (g := upd (fun _ => 0) 0 (nob (v_isVersion S p_ v_))) X dX0_ofVersion_15 jv_up_s hbq_1 (jn_in (by decide) (by decide)) (by rw [nI_clamp (by decide)]) ?_
  rw [jv_up_up]
  refine jv_dup X dX0_ofVersion_16 rfl ?_
  refine jv_iconst (v := nI 1) X dX0_ofVersion_17 rfl ?_
  refine jv_iload_n X dX0_ofVersion_18 3 rfl ?_
  refine jv_iconst (v := nI 0) X dX0_ofVersion_19 rfl ?_
  refine jv_iconst (v := nI 4) X dX0_ofVersion_20 rfl ?_
  refine jv_ask (jv_runS (As := [.int w_, .int (nI 0), .int (nI 4)]) (rest := [.int (nI 1), .ref q_1, .ref q_1]) X dX0_ofVersion_21 (c_X0_isIn w_ (nI 0) (nI 4)) (lw_S q516 q517 q90 q518) hd_X0_isIn (Nat.le_of_ble_eq_true rfl) (Nat.le_of_ble_eq_true rfl) (by omega) (by omega) rfl (Nat.le_of_ble_eq_true rfl)) ?_
  refine jv_ask (jv_runS (As := [.int (bI (v_in w_ (nI 0) (nI 4)))]) (rest := [.int (nI 1), .ref q_1, .ref q_1]) X dX0_ofVersion_24 (c_X0_bad (v_in w_ (nI 0) (nI 4))) (lw_S q526 q527 q90 q528) hd_X0_bad (Nat.le_of_ble_eq_true rfl) (Nat.le_of_ble_eq_true rfl) (by omega) (by omega) rfl (Nat.le_of_ble_eq_true rfl)) ?_
  refine jv_iast (g := upd (upd (fun _ => 0) 0 (nob (v_isVersion S p_ v_))) 1 (bad_ (v_in w_ (nI 0) (nI 4)))) X dX0_ofVersion_27 jv_up_s hbq_1 (jn_in (by decide) (by decide)) (by rw [nI_clamp (by decide)]) ?_
  rw [jv_up_up]
  refine jv_ask (jv_runS (As := [.ref q_1]) (rest := []) X dX0_ofVersion_28 (c_X0_first_2 jv_up_s (nob (v_isVersion S p_ v_)) (bad_ (v_in w_ (nI 0) (nI 4))) rfl rfl) (lw_S q529 q530 q90 q531) hd_X0_first (Nat.le_of_ble_eq_true rfl) (Nat.le_of_ble_eq_true rfl) (by omega) (by omega) rfl (Nat.le_of_ble_eq_true rfl)) ?_
  refine jv_istore (lv' := [(4, .int (fst2 (nob (v_isVersion S p_ v_)) (bad_ (v_in w_ (nI 0) (nI 4))))), (0, .ref xa), (1, .int p_), (2, .int v_), (3, .int w_)]) X dX0_ofVersion_31 (by decide) rfl ?_
  refine jv_iload X dX0_ofVersion_33 0 rfl ?_
  refine jv_if_eq 41 X dX0_ofVersion_35 (by decide) (fun c35 => ?_) (fun c35 => ?_)
  · skip
    obtain ⟨h1_, h2_⟩ := fst2_0.mp c35
    replace h1_ := nob_0.mp h1_
    replace h2_ := bad_0.mp h2_
    have hip_ := v_isVersion_p h1_
    have hpn_ := (v_isPack_n hW hip_).1
    have hvn_ := (v_isVersion_v hW h1_).1
    refine jv_aload_n X dX0_ofVersion_41 1 rfl ?_
    have hq_p_ : nI (p_.toNatClampNeg) = p_ := (v_isPack_n hW hip_).2
    refine jv_to (lv' := [(4, .int (fst2 (nob (v_isVersion S p_ v_)) (bad_ (v_in w_ (nI 0) (nI 4))))), (0, .ref xa), (1, .int (nI p_.toNatClampNeg)), (2, .int v_), (3, .int w_)]) (st' := [.ref xa]) (by rw [hq_p_]) rfl ?_
    have hq_v_ : nI (v_.toNatClampNeg) = v_ := (v_isVersion_v hW h1_).2
    refine jv_to (lv' := [(4, .int (fst2 (nob (v_isVersion S p_ v_)) (bad_ (v_in w_ (nI 0) (nI 4))))), (0, .ref xa), (1, .int (nI p_.toNatClampNeg)), (2, .int (nI v_.toNatClampNeg)), (3, .int w_)]) (st' := [.ref xa]) (by rw [hq_v_]) rfl ?_
    refine jv_get X dX0_ofVersion_42 ((jag.new jag.rf hnq_1).c hx) (T := TX0) (N := 7) (C := RX0) rfl in_X0 0 (by decide) q257 rfl rfl ?_
    refine jv_getN X dX0_ofVersion_45 ((jag.new jag.rf hnq_1).c hb) (T := TX1) (N := 3) (C := RX1) rfl in_X1 0 (by decide) q183 rfl rfl ?_
    refine jv_iload_n X dX0_ofVersion_48 2 rfl ?_
    refine jv_callr (jv_runV (As := [.int (nI p_.toNatClampNeg)]) (rest := []) X dX0_ofVersion_49 (c_J2_get ((jag.new jag.rf hnq_1).c hlp) ((jag.new jag.rf hnq_1).c hep) p_.toNatClampNeg (P p_.toNatClampNeg) (by omega) (by omega) (by omega) (by rw [hfp _ (by omega)]; rfl)) (lw_V q532 q533 q534 q94 q535) hd_J2_get ((jag.new jag.rf hnq_1).c hlp) rfl (Nat.le_of_ble_eq_true rfl) (Nat.le_of_ble_eq_true rfl) (by omega) (by omega) rfl (Nat.le_of_ble_eq_true rfl)) (fun rr_ M_ h_ => ?_)
    obtain ⟨hr_, hm_⟩ := h_
    rw [hr_, hm_]
    clear hr_ hm_
    obtain ⟨lv_3, V_3, hpk_3, -, ⟨mv_3, ev_3, fv_3, hlv_3, hev_3, hnv_3, hfv_3, -, -, -⟩, hvv_3⟩ := hP p_.toNatClampNeg (by omega)
    have hnv5_3 := hW.nv (show p_.toNatClampNeg < 6 by omega)
    refine jv_castS X dX0_ofVersion_52 ((jag.new jag.rf hnq_1).c hpk_3) (r := (RX3, TX3, 2)) rfl q465 ?_
    refine jv_astore (lv' := [(5, .ref (P p_.toNatClampNeg)), (4, .int (fst2 (nob (v_isVersion S p_ v_)) (bad_ (v_in w_ (nI 0) (nI 4))))), (0, .ref xa), (1, .int (nI p_.toNatClampNeg)), (2, .int (nI v_.toNatClampNeg)), (3, .int w_)]) X dX0_ofVersion_55 (by decide) rfl ?_
    refine jv_iload_n X dX0_ofVersion_57 5 rfl ?_
    by_cases c58_0 : w_ = nI 0
    · skip
      refine jv_tableIn 88 X dX0_ofVersion_58 (by rw [c58_0]; decide) (by rw [c58_0]; decide) (by rw [c58_0]; rfl) (by decide) ?_
      subst c58_0
      refine jv_aload X dX0_ofVersion_88 0 rfl ?_
      refine jv_getN X dX0_ofVersion_90 ((jag.new jag.rf hnq_1).c hpk_3) (T := TX3) (N := 2) (C := RX3) rfl in_X3 0 (by decide) q354 rfl rfl ?_
      refine jv_iload_n X dX0_ofVersion_93 4 rfl ?_
      refine jv_callr (jv_runV (As := [.int (nI v_.toNatClampNeg)]) (rest := []) X dX0_ofVersion_94 (c_J2_get ((jag.new jag.rf hnq_1).c hlv_3) ((jag.new jag.rf hnq_1).c hev_3) v_.toNatClampNeg (V_3 v_.toNatClampNeg) (by omega) (by omega) (by omega) (by rw [hfv_3 _ (by omega)]; rfl)) (lw_V q532 q533 q534 q94 q535) hd_J2_get ((jag.new jag.rf hnq_1).c hlv_3) rfl (Nat.le_of_ble_eq_true rfl) (Nat.le_of_ble_eq_true rfl) (by omega) (by omega) rfl (Nat.le_of_ble_eq_true rfl)) (fun rr_ M_ h_ => ?_)
      obtain ⟨hr_, hm_⟩ := h_
      rw [hr_, hm_]
      clear hr_ hm_
      refine jv_castS X dX0_ofVersion_97 ((jag.new jag.rf hnq_1).c (hvv_3 v_.toNatClampNeg (by omega)).1.c) (r := (RX4, TX4, 3)) rfl q546 ?_
      refine jv_iload_n X dX0_ofVersion_100 5 rfl ?_
      refine jv_ask (jv_runV (As := [.int (nI 0)]) (rest := []) X dX0_ofVersion_101 (c_X4_number (c := v_of S p_.toNatClampNeg (2 + v_.toNatClampNeg)) ((jag.new jag.rf hnq_1).c (hvv_3 v_.toNatClampNeg (by omega)).1.c) 0 (by decide)) (lw_V q604 q605 q606 q109 q607) hd_X4_number ((jag.new jag.rf hnq_1).c (hvv_3 v_.toNatClampNeg (by omega)).1.c) rfl (Nat.le_of_ble_eq_true rfl) (Nat.le_of_ble_eq_true rfl) (by omega) (by omega) rfl (Nat.le_of_ble_eq_true rfl)) ?_
      refine jv_goto 122 X dX0_ofVersion_104 (by decide) ?_
      refine jv_fewer (jag.few (jag.new jag.rf hnq_1)) ?_
      exact jv_iret (v := nI (if 0 = 0 then (v_of S p_.toNatClampNeg (2 + v_.toNatClampNeg)) / 100 else if 0 = 1 then (v_of S p_.toNatClampNeg (2 + v_.toNatClampNeg)) / 10 % 10 else (v_of S p_.toNatClampNeg (2 + v_.toNatClampNeg)) % 10)) X dX0_ofVersion_122 rfl hQ (Nat.le_of_ble_eq_true rfl) (Nat.le_of_ble_eq_true rfl) ⟨(by unfold m_ofVersion; rw [if_pos h1_]; rfl), rfl⟩
    · skip
      by_cases c58_1 : w_ = nI 1
      · skip
        refine jv_tableIn 88 X dX0_ofVersion_58 (by rw [c58_1]; decide) (by rw [c58_1]; decide) (by rw [c58_1]; rfl) (by decide) ?_
        subst c58_1
        refine jv_aload X dX0_ofVersion_88 0 rfl ?_
        refine jv_getN X dX0_ofVersion_90 ((jag.new jag.rf hnq_1).c hpk_3) (T := TX3) (N := 2) (C := RX3) rfl in_X3 0 (by decide) q354 rfl rfl ?_
        refine jv_iload_n X dX0_ofVersion_93 4 rfl ?_
        refine jv_callr (jv_runV (As := [.int (nI v_.toNatClampNeg)]) (rest := []) X dX0_ofVersion_94 (c_J2_get ((jag.new jag.rf hnq_1).c hlv_3) ((jag.new jag.rf hnq_1).c hev_3) v_.toNatClampNeg (V_3 v_.toNatClampNeg) (by omega) (by omega) (by omega) (by rw [hfv_3 _ (by omega)]; rfl)) (lw_V q532 q533 q534 q94 q535) hd_J2_get ((jag.new jag.rf hnq_1).c hlv_3) rfl (Nat.le_of_ble_eq_true rfl) (Nat.le_of_ble_eq_true rfl) (by omega) (by omega) rfl (Nat.le_of_ble_eq_true rfl)) (fun rr_ M_ h_ => ?_)
        obtain ⟨hr_, hm_⟩ := h_
        rw [hr_, hm_]
        clear hr_ hm_
        refine jv_castS X dX0_ofVersion_97 ((jag.new jag.rf hnq_1).c (hvv_3 v_.toNatClampNeg (by omega)).1.c) (r := (RX4, TX4, 3)) rfl q546 ?_
        refine jv_iload_n X dX0_ofVersion_100 5 rfl ?_
        refine jv_ask (jv_runV (As := [.int (nI 1)]) (rest := []) X dX0_ofVersion_101 (c_X4_number (c := v_of S p_.toNatClampNeg (2 + v_.toNatClampNeg)) ((jag.new jag.rf hnq_1).c (hvv_3 v_.toNatClampNeg (by omega)).1.c) 1 (by decide)) (lw_V q604 q605 q606 q109 q607) hd_X4_number ((jag.new jag.rf hnq_1).c (hvv_3 v_.toNatClampNeg (by omega)).1.c) rfl (Nat.le_of_ble_eq_true rfl) (Nat.le_of_ble_eq_true rfl) (by omega) (by omega) rfl (Nat.le_of_ble_eq_true rfl)) ?_
        refine jv_goto 122 X dX0_ofVersion_104 (by decide) ?_
        refine jv_fewer (jag.few (jag.new jag.rf hnq_1)) ?_
        exact jv_iret (v := nI (if 1 = 0 then (v_of S p_.toNatClampNeg (2 + v_.toNatClampNeg)) / 100 else if 1 = 1 then (v_of S p_.toNatClampNeg (2 + v_.toNatClampNeg)) / 10 % 10 else (v_of S p_.toNatClampNeg (2 + v_.toNatClampNeg)) % 10)) X dX0_ofVersion_122 rfl hQ (Nat.le_of_ble_eq_true rfl) (Nat.le_of_ble_eq_true rfl) ⟨(by unfold m_ofVersion; rw [if_pos h1_]; rfl), rfl⟩
      · skip
        by_cases c58_2 : w_ = nI 2
        · skip
          refine jv_tableIn 88 X dX0_ofVersion_58 (by rw [c58_2]; decide) (by rw [c58_2]; decide) (by rw [c58_2]; rfl) (by decide) ?_
          subst c58_2
          refine jv_aload X dX0_ofVersion_88 0 rfl ?_
          refine jv_getN X dX0_ofVersion_90 ((jag.new jag.rf hnq_1).c hpk_3) (T := TX3) (N := 2) (C := RX3) rfl in_X3 0 (by decide) q354 rfl rfl ?_
          refine jv_iload_n X dX0_ofVersion_93 4 rfl ?_
          refine jv_callr (jv_runV (As := [.int (nI v_.toNatClampNeg)]) (rest := []) X dX0_ofVersion_94 (c_J2_get ((jag.new jag.rf hnq_1).c hlv_3) ((jag.new jag.rf hnq_1).c hev_3) v_.toNatClampNeg (V_3 v_.toNatClampNeg) (by omega) (by omega) (by omega) (by rw [hfv_3 _ (by omega)]; rfl)) (lw_V q532 q533 q534 q94 q535) hd_J2_get ((jag.new jag.rf hnq_1).c hlv_3) rfl (Nat.le_of_ble_eq_true rfl) (Nat.le_of_ble_eq_true rfl) (by omega) (by omega) rfl (Nat.le_of_ble_eq_true rfl)) (fun rr_ M_ h_ => ?_)
          obtain ⟨hr_, hm_⟩ := h_
          rw [hr_, hm_]
          clear hr_ hm_
          refine jv_castS X dX0_ofVersion_97 ((jag.new jag.rf hnq_1).c (hvv_3 v_.toNatClampNeg (by omega)).1.c) (r := (RX4, TX4, 3)) rfl q546 ?_
          refine jv_iload_n X dX0_ofVersion_100 5 rfl ?_
          refine jv_ask (jv_runV (As := [.int (nI 2)]) (rest := []) X dX0_ofVersion_101 (c_X4_number (c := v_of S p_.toNatClampNeg (2 + v_.toNatClampNeg)) ((jag.new jag.rf hnq_1).c (hvv_3 v_.toNatClampNeg (by omega)).1.c) 2 (by decide)) (lw_V q604 q605 q606 q109 q607) hd_X4_number ((jag.new jag.rf hnq_1).c (hvv_3 v_.toNatClampNeg (by omega)).1.c) rfl (Nat.le_of_ble_eq_true rfl) (Nat.le_of_ble_eq_true rfl) (by omega) (by omega) rfl (Nat.le_of_ble_eq_true rfl)) ?_
          refine jv_goto 122 X dX0_ofVersion_104 (by decide) ?_
          refine jv_fewer (jag.few (jag.new jag.rf hnq_1)) ?_
          exact jv_iret (v := nI (if 2 = 0 then (v_of S p_.toNatClampNeg (2 + v_.toNatClampNeg)) / 100 else if 2 = 1 then (v_of S p_.toNatClampNeg (2 + v_.toNatClampNeg)) / 10 % 10 else (v_of S p_.toNatClampNeg (2 + v_.toNatClampNeg)) % 10)) X dX0_ofVersion_122 rfl hQ (Nat.le_of_ble_eq_true rfl) (Nat.le_of_ble_eq_true rfl) ⟨(by unfold m_ofVersion; rw [if_pos h1_]; rfl), rfl⟩
        · skip
          by_cases c58_3 : w_ = nI 3
          · skip
            refine jv_tableIn 107 X dX0_ofVersion_58 (by rw [c58_3]; decide) (by rw [c58_3]; decide) (by rw [c58_3]; rfl) (by decide) ?_
            subst c58_3
            refine jv_aload X dX0_ofVersion_107 0 rfl ?_
            refine jv_iload_n X dX0_ofVersion_109 4 rfl ?_
            refine jv_ask (jv_runV (As := [.int (nI v_.toNatClampNeg)]) (rest := []) X dX0_ofVersion_110 (c_X3_placeOf hG ((hP p_.toNatClampNeg (by omega)).sub (jag.new jag.rf hnq_1)) hW (by omega) v_.toNatClampNeg (by omega)) (lw_V q608 q609 q610 q102 q611) hd_X3_placeOf ((jag.new jag.rf hnq_1).c hpk_3) rfl (Nat.le_of_ble_eq_true rfl) (Nat.le_of_ble_eq_true rfl) (by omega) (by omega) rfl (Nat.le_of_ble_eq_true rfl)) ?_
            refine jv_goto 122 X dX0_ofVersion_113 (by decide) ?_
            refine jv_fewer (jag.few (jag.new jag.rf hnq_1)) ?_
            exact jv_iret (v := nI (bef S p_.toNatClampNeg v_.toNatClampNeg)) X dX0_ofVersion_122 rfl hQ (Nat.le_of_ble_eq_true rfl) (Nat.le_of_ble_eq_true rfl) ⟨(by unfold m_ofVersion; rw [if_pos h1_]; rfl), rfl⟩
          · skip
            refine jv_tableOut 116 X dX0_ofVersion_58 (jt_out4 c58_0 c58_1 c58_2 c58_3) (by decide) ?_
            refine jv_aload_n X dX0_ofVersion_116 2 rfl ?_
            refine jv_iload_n X dX0_ofVersion_117 3 rfl ?_
            refine jv_iload_n X dX0_ofVersion_118 4 rfl ?_
            refine jv_ask (jv_runV (As := [.int (nI p_.toNatClampNeg), .int (nI v_.toNatClampNeg)]) (rest := []) X dX0_ofVersion_119 (c_X0_tiesOf hG ((jag.new jag.rf hnq_1).c hx) (hB_.sub (jag.new jag.rf hnq_1) hp0) hS hL hPP p_.toNatClampNeg v_.toNatClampNeg (by omega) (by have := hW.nv (show p_.toNatClampNeg < 6 by omega); omega)) (lw_V q617 q619 qs11 q90 q620) hd_X0_tiesOf ((jag.new jag.rf hnq_1).c hx) rfl (Nat.le_of_ble_eq_true rfl) (Nat.le_of_ble_eq_true rfl) (by omega) (by omega) rfl (Nat.le_of_ble_eq_true rfl)) ?_
            refine jv_fewer (jag.few (jag.new jag.rf hnq_1)) ?_
            exact jv_iret (v := nI (rls S p_.toNatClampNeg v_.toNatClampNeg)) X dX0_ofVersion_122 rfl hQ (Nat.le_of_ble_eq_true rfl) (Nat.le_of_ble_eq_true rfl) ⟨(by rw [in4 h2_ c58_0 c58_1 c58_2 c58_3]; unfold m_ofVersion; rw [if_pos h1_]; rfl), rfl⟩
  · skip
    refine jv_iload X dX0_ofVersion_38 0 rfl ?_
    refine jv_fewer (jag.few (jag.new jag.rf hnq_1)) ?_
    exact jv_iret (v := fst2 (nob (v_isVersion S p_ v_)) (bad_ (v_in w_ (nI 0) (nI 4)))) X dX0_ofVersion_40 rfl hQ (Nat.le_of_ble_eq_true rfl) (Nat.le_of_ble_eq_true rfl) ⟨(ofv_bad c35), rfl⟩
theorem hd_X0_rule : jv_dd yX0_rule 2 := by unfold jv_dd; decide +kernel
set_option maxHeartbeats 4000000 in
theorem c_X0_rule {l : Launch} {G : jv_G} {M : jv_M} {σ : jk_A} (hG : jk_G G σ) {τ : Nat → Nat} {xa b pa ip rp : Nat} {sv : Option Nat} {eA_ fA_ : Int32} {S : Nat → Nat} (hx : M xa = some (.inr (0, [.ref b, .ref pa, .ref ip, .ref rp, va_rf sv,   .int eA_, .int fA_]))) (hB : jbd G M τ b S) (hS : wfS S) (hL : wfL S) (hPP : wfP S) (p_ : Int32) (w_ : Int32)  : jv_Ct G l yX0_rule cX0_rule 4 (some .int) 8 1 2 260 [.ref xa, .int p_, .int w_] M (jv_qi G (jv_pi (m_rule S p_ w_) M)) := by
  refine jv_Ct.of (lv := [(0, .ref xa), (1, .int p_), (2, .int w_)]) (by decide) (Nat.le_of_ble_eq_true rfl) rfl ?_
  intro x Q_ hl_ hQ X
  subst hl_
  have hB_ := hB
  obtain ⟨lp, lr, la, P, R, A, hb, hfb, ⟨⟨mp_, ep, fp, hlp, hep, hn6, hfp, -, -, -⟩, hP⟩, ⟨⟨mr_, er, fr_, hlr, her, hn30, hfr_, -, -, -⟩, hR⟩, ⟨ma_, ea, fa, hla, hea, hn6a, hfa, -, -, -⟩, hA⟩ := hB
  have hW := hS.1
  have hp0 := hW.p
  have hr0 := hW.r
  have ha0 := hW.a
  refine jv_iconst (v := nI 2) X dX0_rule_0 rfl ?_
  refine jv_newi (N := 2) (k1 := 1) (n1 := 2) X dX0_rule_1 q563 (by decide) rfl (by decide) rfl rfl (Nat.le_of_ble_eq_true rfl) (Nat.le_of_ble_eq_true rfl) (fun q_1 hnq_1 hbq_1 => ?_)
  refine jv_dup X dX0_rule_3 rfl ?_
  refine jv_iconst (v := nI 0) X dX0_rule_4 rfl ?_
  refine jv_aload_n X dX0_rule_5 0 rfl ?_
  refine jv_aload_n X dX0_rule_6 0 rfl ?_
  refine jv_iload_n X dX0_rule_7 1 rfl ?_
  refine jv_ask (jv_runV (As := [.int p_]) (rest := [.ref xa, .int (nI 0), .ref q_1, .ref q_1]) X dX0_rule_8 (c_X0_isRule hG ((jag.new jag.rf hnq_1).c hx) (hB_.sub (jag.new jag.rf hnq_1) hp0) hS hL hPP p_) (lw_V q791 q793 qs16 q90 q794) hd_X0_isRule ((jag.new jag.rf hnq_1).c hx) rfl (Nat.le_of_ble_eq_true rfl) (Nat.le_of_ble_eq_true rfl) (by omega) (by omega) rfl (Nat.le_of_ble_eq_true rfl)) ?_
  refine jv_ask (jv_runV (As := [.int (bI (v_isRule S p_))]) (rest := [.int (nI 0), .ref q_1, .ref q_1]) X dX0_rule_11 (c_X0_nobody (v_isRule S p_)) (lw_V q519 q521 qs8 q90 q522) hd_X0_nobody ((jag.new jag.rf hnq_1).c hx) rfl (Nat.le_of_ble_eq_true rfl) (Nat.le_of_ble_eq_true rfl) (by omega) (by omega) rfl (Nat.le_of_ble_eq_true rfl)) ?_
  refine jv_iast (g := upd (fun _ => 0) 0 (nob (v_isRule S p_))) X dX0_rule_14 jv_up_s hbq_1 (jn_in (by decide) (by decide)) (by rw [nI_clamp (by decide)]) ?_
  rw [jv_up_up]
  refine jv_dup X dX0_rule_15 rfl ?_
  refine jv_iconst (v := nI 1) X dX0_rule_16 rfl ?_
  refine jv_iload_n X dX0_rule_17 2 rfl ?_
  refine jv_iconst (v := nI 0) X dX0_rule_18 rfl ?_
  refine jv_iconst (v := nI 5) X dX0_rule_19 rfl ?_
  refine jv_ask (jv_runS (As := [.int w_, .int (nI 0), .int (nI 5)]) (rest := [.int (nI 1), .ref q_1, .ref q_1]) X dX0_rule_20 (c_X0_isIn w_ (nI 0) (nI 5)) (lw_S q516 q517 q90 q518) hd_X0_isIn (Nat.le_of_ble_eq_true rfl) (Nat.le_of_ble_eq_true rfl) (by omega) (by omega) rfl (Nat.le_of_ble_eq_true rfl)) ?_
  refine jv_ask (jv_runS (As := [.int (bI (v_in w_ (nI 0) (nI 5)))]) (rest := [.int (nI 1), .ref q_1, .ref q_1]) X dX0_rule_23 (c_X0_bad (v_in w_ (nI 0) (nI 5))) (lw_S q526 q527 q90 q528) hd_X0_bad (Nat.le_of_ble_eq_true rfl) (Nat.le_of_ble_eq_true rfl) (by omega) (by omega) rfl (Nat.le_of_ble_eq_true rfl)) ?_
  refine jv_iast (g := upd (upd (fun _ => 0) 0 (nob (v_isRule S p_))) 1 (bad_ (v_in w_ (nI 0) (nI 5)))) X dX0_rule_26 jv_up_s hbq_1 (jn_in (by decide) (by decide)) (by rw [nI_clamp (by decide)]) ?_
  rw [jv_up_up]
  refine jv_ask (jv_runS (As := [.ref q_1]) (rest := []) X dX0_rule_27 (c_X0_first_2 jv_up_s (nob (v_isRule S p_)) (bad_ (v_in w_ (nI 0) (nI 5))) rfl rfl) (lw_S q529 q530 q90 q531) hd_X0_first (Nat.le_of_ble_eq_true rfl) (Nat.le_of_ble_eq_true rfl) (by omega) (by omega) rfl (Nat.le_of_ble_eq_true rfl)) ?_
  refine jv_istore_n (lv' := [(3, .int (fst2 (nob (v_isRule S p_)) (bad_ (v_in w_ (nI 0) (nI 5))))), (0, .ref xa), (1, .int p_), (2, .int w_)]) X dX0_rule_30 rfl (by decide) rfl ?_
  refine jv_iload_n X dX0_rule_31 0 rfl ?_
  refine jv_if_eq 39 X dX0_rule_32 (by decide) (fun c32 => ?_) (fun c32 => ?_)
  · skip
    obtain ⟨h1_, h2_⟩ := fst2_0.mp c32
    replace h1_ := nob_0.mp h1_
    replace h2_ := bad_0.mp h2_
    refine jv_aload_n X dX0_rule_39 1 rfl ?_
    have hq_p_ : nI (p_.toNatClampNeg) = p_ := (v_isRule_n hW h1_).2
    refine jv_to (lv' := [(3, .int (fst2 (nob (v_isRule S p_)) (bad_ (v_in w_ (nI 0) (nI 5))))), (0, .ref xa), (1, .int (nI p_.toNatClampNeg)), (2, .int w_)]) (st' := [.ref xa]) (by rw [hq_p_]) rfl ?_
    have hpn_ := (v_isRule_n hW h1_).1
    refine jv_get X dX0_rule_40 ((jag.new jag.rf hnq_1).c hx) (T := TX0) (N := 7) (C := RX0) rfl in_X0 0 (by decide) q257 rfl rfl ?_
    refine jv_getN X dX0_rule_43 ((jag.new jag.rf hnq_1).c hb) (T := TX1) (N := 3) (C := RX1) rfl in_X1 1 (by decide) q188 rfl rfl ?_
    refine jv_iload_n X dX0_rule_46 2 rfl ?_
    refine jv_callr (jv_runV (As := [.int (nI p_.toNatClampNeg)]) (rest := []) X dX0_rule_47 (c_J2_get ((jag.new jag.rf hnq_1).c hlr) ((jag.new jag.rf hnq_1).c her) p_.toNatClampNeg (R p_.toNatClampNeg) (by omega) (by omega) (by omega) (by rw [hfr_ _ (by omega)]; rfl)) (lw_V q532 q533 q534 q94 q535) hd_J2_get ((jag.new jag.rf hnq_1).c hlr) rfl (Nat.le_of_ble_eq_true rfl) (Nat.le_of_ble_eq_true rfl) (by omega) (by omega) rfl (Nat.le_of_ble_eq_true rfl)) (fun rr_ M_ h_ => ?_)
    obtain ⟨hr_, hm_⟩ := h_
    rw [hr_, hm_]
    clear hr_ hm_
    refine jr_cast X dX0_rule_50 q626 ((hR p_.toNatClampNeg (by omega)).sub (jag.new jag.rf hnq_1)) ?_
    refine jv_iload_n X dX0_rule_53 3 rfl ?_
    refine jv_ask (jr_what (rest := []) X dX0_rule_54 q795 ((hR p_.toNatClampNeg (by omega)).sub (jag.new jag.rf hnq_1)) w_ (Nat.le_of_ble_eq_true rfl) (Nat.le_of_ble_eq_true rfl) (Nat.le_of_ble_eq_true rfl) (Nat.le_of_ble_eq_true rfl) (Nat.le_of_ble_eq_true rfl)) ?_
    refine jv_fewer (jag.few (jag.new jag.rf hnq_1)) ?_
    exact jv_iret (v := rWht S p_.toNatClampNeg w_) X dX0_rule_57 rfl hQ (Nat.le_of_ble_eq_true rfl) (Nat.le_of_ble_eq_true rfl) ⟨(rul_ok hW h1_ h2_), rfl⟩
  · skip
    refine jv_iload_n X dX0_rule_35 0 rfl ?_
    refine jv_goto 57 X dX0_rule_36 (by decide) ?_
    refine jv_fewer (jag.few (jag.new jag.rf hnq_1)) ?_
    exact jv_iret (v := fst2 (nob (v_isRule S p_)) (bad_ (v_in w_ (nI 0) (nI 5)))) X dX0_rule_57 rfl hQ (Nat.le_of_ble_eq_true rfl) (Nat.le_of_ble_eq_true rfl) ⟨(rul_bad c32), rfl⟩
theorem hd_X0_learned : jv_dd yX0_learned 2 := by unfold jv_dd; decide +kernel
set_option maxHeartbeats 4000000 in
theorem c_X0_learned {l : Launch} {G : jv_G} {M : jv_M} {σ : jk_A} (hG : jk_G G σ) {τ : Nat → Nat} {xa b pa ip rp : Nat} {sv : Option Nat} {eA_ fA_ : Int32} {S : Nat → Nat} (hx : M xa = some (.inr (0, [.ref b, .ref pa, .ref ip, .ref rp, va_rf sv,   .int eA_, .int fA_]))) (hB : jbd G M τ b S) (hS : wfS S) (hL : wfL S) (hPP : wfP S) (r_ : Int32) (p_ : Int32)  : jv_Ct G l yX0_learned cX0_learned 3 (some .int) 8 0 0 260 [.ref xa, .int r_, .int p_] M (jv_qi G (jv_pi (m_learned S r_ p_) M)) := by
  refine jv_Ct.of (lv := [(0, .ref xa), (1, .int r_), (2, .int p_)]) (by decide) (Nat.le_of_ble_eq_true rfl) rfl ?_
  intro x Q_ hl_ hQ X
  subst hl_
  have hB_ := hB
  obtain ⟨lp, lr, la, P, R, A, hb, hfb, ⟨⟨mp_, ep, fp, hlp, hep, hn6, hfp, -, -, -⟩, hP⟩, ⟨⟨mr_, er, fr_, hlr, her, hn30, hfr_, -, -, -⟩, hR⟩, ⟨ma_, ea, fa, hla, hea, hn6a, hfa, -, -, -⟩, hA⟩ := hB
  have hW := hS.1
  have hp0 := hW.p
  have hr0 := hW.r
  have ha0 := hW.a
  refine jv_aload_n X dX0_learned_0 0 rfl ?_
  refine jv_iload_n X dX0_learned_1 1 rfl ?_
  refine jv_ask (jv_runV (As := [.int r_]) (rest := []) X dX0_learned_2 (c_X0_isRule hG hx hB_ hS hL hPP r_) (lw_V q791 q793 qs16 q90 q794) hd_X0_isRule hx rfl (Nat.le_of_ble_eq_true rfl) (Nat.le_of_ble_eq_true rfl) (Nat.le_of_ble_eq_true rfl) (Nat.le_of_ble_eq_true rfl) rfl (Nat.le_of_ble_eq_true rfl)) ?_
  refine jb_if_eq 37 X dX0_learned_5 (by decide) (fun c5 => ?_) (fun c5 => ?_)
  · skip
    refine jv_iconst (v := (-1)) X dX0_learned_37 rfl ?_
    exact jv_iret (v := (-1)) X dX0_learned_38 rfl hQ (Nat.le_of_ble_eq_true rfl) (Nat.le_of_ble_eq_true rfl) ⟨(by unfold m_learned; rw [if_neg (by rw [c5]; decide)]), rfl⟩
  · skip
    refine jv_aload_n X dX0_learned_8 0 rfl ?_
    refine jv_iload_n X dX0_learned_9 2 rfl ?_
    refine jv_ask (jv_runV (As := [.int p_]) (rest := []) X dX0_learned_10 (c_X0_isPack hG hx hB_ hS hL hPP p_) (lw_V q512 q514 qs7 q90 q515) hd_X0_isPack hx rfl (Nat.le_of_ble_eq_true rfl) (Nat.le_of_ble_eq_true rfl) (Nat.le_of_ble_eq_true rfl) (Nat.le_of_ble_eq_true rfl) rfl (Nat.le_of_ble_eq_true rfl)) ?_
    refine jb_if_eq 37 X dX0_learned_13 (by decide) (fun c13 => ?_) (fun c13 => ?_)
    · skip
      refine jv_iconst (v := (-1)) X dX0_learned_37 rfl ?_
      exact jv_iret (v := (-1)) X dX0_learned_38 rfl hQ (Nat.le_of_ble_eq_true rfl) (Nat.le_of_ble_eq_true rfl) ⟨(by unfold m_learned; rw [if_pos c5, if_neg (by rw [c13]; decide)]), rfl⟩
    · skip
      refine jv_aload_n X dX0_learned_16 0 rfl ?_
      have hq_r_ : nI (r_.toNatClampNeg) = r_ := (v_isRule_n hW c5).2
      refine jv_to (lv' := [(0, .ref xa), (1, .int (nI r_.toNatClampNeg)), (2, .int p_)]) (st' := [.ref xa]) (by rw [hq_r_]) rfl ?_
      have hq_p_ : nI (p_.toNatClampNeg) = p_ := (v_isPack_n hW c13).2
      refine jv_to (lv' := [(0, .ref xa), (1, .int (nI r_.toNatClampNeg)), (2, .int (nI p_.toNatClampNeg))]) (st' := [.ref xa]) (by rw [hq_p_]) rfl ?_
      have hpn_ := (v_isRule_n hW c5).1
      have hqn_ := (v_isPack_n hW c13).1
      refine jv_get X dX0_learned_17 hx (T := TX0) (N := 7) (C := RX0) rfl in_X0 0 (by decide) q257 rfl rfl ?_
      refine jv_getN X dX0_learned_20 hb (T := TX1) (N := 3) (C := RX1) rfl in_X1 1 (by decide) q188 rfl rfl ?_
      refine jv_iload_n X dX0_learned_23 1 rfl ?_
      refine jv_callr (jv_runV (As := [.int (nI r_.toNatClampNeg)]) (rest := []) X dX0_learned_24 (c_J2_get hlr her r_.toNatClampNeg (R r_.toNatClampNeg) (by omega) (by omega) (by omega) (by rw [hfr_ _ (by omega)]; rfl)) (lw_V q532 q533 q534 q94 q535) hd_J2_get hlr rfl (Nat.le_of_ble_eq_true rfl) (Nat.le_of_ble_eq_true rfl) (Nat.le_of_ble_eq_true rfl) (Nat.le_of_ble_eq_true rfl) rfl (Nat.le_of_ble_eq_true rfl)) (fun rr_ M_ h_ => ?_)
      obtain ⟨hr_, hm_⟩ := h_
      rw [hr_, hm_]
      clear hr_ hm_
      refine jr_cast X dX0_learned_27 q626 (hR r_.toNatClampNeg (by omega)) ?_
      refine jv_iload_n X dX0_learned_30 2 rfl ?_
      refine jv_ask (jr_stateOf (rest := []) X dX0_learned_31 q834 (hR r_.toNatClampNeg (by omega)) p_.toNatClampNeg (by omega) (Nat.le_of_ble_eq_true rfl) (Nat.le_of_ble_eq_true rfl) (Nat.le_of_ble_eq_true rfl) (Nat.le_of_ble_eq_true rfl) (Nat.le_of_ble_eq_true rfl)) ?_
      refine jv_goto 38 X dX0_learned_34 (by decide) ?_
      exact jv_iret (v := rSta S r_.toNatClampNeg p_.toNatClampNeg) X dX0_learned_38 rfl hQ (Nat.le_of_ble_eq_true rfl) (Nat.le_of_ble_eq_true rfl) ⟨(lrd_ok c5 c13), rfl⟩
theorem hd_X0_assumption : jv_dd yX0_assumption 2 := by unfold jv_dd; decide +kernel
set_option maxHeartbeats 4000000 in
theorem c_X0_assumption {l : Launch} {G : jv_G} {M : jv_M} {σ : jk_A} (hG : jk_G G σ) {τ : Nat → Nat} {xa b pa ip rp : Nat} {sv : Option Nat} {eA_ fA_ : Int32} {S : Nat → Nat} (hx : M xa = some (.inr (0, [.ref b, .ref pa, .ref ip, .ref rp, va_rf sv,   .int eA_, .int fA_]))) (hB : jbd G M τ b S) (hS : wfS S) (hL : wfL S) (hPP : wfP S) (a_ : Int32) (bb : Bool)  : jv_Ct G l yX0_assumption cX0_assumption 4 (some .int) 3 0 0 64 [.ref xa, .int a_, .int (bI bb)] M (jv_qi G (jv_pi (m_assumption S a_ bb) M)) := by
  refine jv_Ct.of (lv := [(0, .ref xa), (1, .int a_), (2, .int (bI bb))]) (by decide) (Nat.le_of_ble_eq_true rfl) rfl ?_
  intro x Q_ hl_ hQ X
  subst hl_
  have hB_ := hB
  obtain ⟨lp, lr, la, P, R, A, hb, hfb, ⟨⟨mp_, ep, fp, hlp, hep, hn6, hfp, -, -, -⟩, hP⟩, ⟨⟨mr_, er, fr_, hlr, her, hn30, hfr_, -, -, -⟩, hR⟩, ⟨ma_, ea, fa, hla, hea, hn6a, hfa, -, -, -⟩, hA⟩ := hB
  have hW := hS.1
  have hp0 := hW.p
  have hr0 := hW.r
  have ha0 := hW.a
  refine jv_iload_n X dX0_assumption_0 1 rfl ?_
  refine jv_iconst (v := nI 0) X dX0_assumption_1 rfl ?_
  refine jv_aload_n X dX0_assumption_2 0 rfl ?_
  refine jv_get X dX0_assumption_3 hx (T := TX0) (N := 7) (C := RX0) rfl in_X0 0 (by decide) q257 rfl rfl ?_
  refine jv_getN X dX0_assumption_6 hb (T := TX1) (N := 3) (C := RX1) rfl in_X1 2 (by decide) q193 rfl rfl ?_
  refine jv_ask (jv_runV (As := []) (rest := [.int (nI 0), .int a_]) X dX0_assumption_9 (c_J2_size hla) (lw_V q283 q284 q285 q94 q286) hd_J2_size hla rfl (Nat.le_of_ble_eq_true rfl) (Nat.le_of_ble_eq_true rfl) (Nat.le_of_ble_eq_true rfl) (Nat.le_of_ble_eq_true rfl) rfl (Nat.le_of_ble_eq_true rfl)) ?_
  refine jv_iconst (v := nI 1) X dX0_assumption_12 rfl ?_
  refine jv_isub (w := nI (S 2) - nI 1) X dX0_assumption_13 rfl ?_
  refine jv_ask (jv_runS (As := [.int a_, .int (nI 0), .int (nI (S 2) - nI 1)]) (rest := []) X dX0_assumption_14 (c_X0_isIn a_ (nI 0) (nI (S 2) - nI 1)) (lw_S q516 q517 q90 q518) hd_X0_isIn (Nat.le_of_ble_eq_true rfl) (Nat.le_of_ble_eq_true rfl) (Nat.le_of_ble_eq_true rfl) (Nat.le_of_ble_eq_true rfl) rfl (Nat.le_of_ble_eq_true rfl)) ?_
  refine jb_if_ne 22 X dX0_assumption_17 (by decide) (fun c17 => ?_) (fun c17 => ?_)
  · skip
    refine jv_aload_n X dX0_assumption_22 0 rfl ?_
    have hq_a_ : nI (a_.toNatClampNeg) = a_ := (v_in_up (n := S 2) (by omega) c17).2
    refine jv_to (lv' := [(0, .ref xa), (1, .int (nI a_.toNatClampNeg)), (2, .int (bI bb))]) (st' := [.ref xa]) (by rw [hq_a_]) rfl ?_
    have han_ := (v_in_up (n := S 2) (by omega) c17).1
    refine jv_get X dX0_assumption_23 hx (T := TX0) (N := 7) (C := RX0) rfl in_X0 0 (by decide) q257 rfl rfl ?_
    refine jv_getN X dX0_assumption_26 hb (T := TX1) (N := 3) (C := RX1) rfl in_X1 2 (by decide) q193 rfl rfl ?_
    refine jv_iload_n X dX0_assumption_29 1 rfl ?_
    refine jv_callr (jv_runV (As := [.int (nI a_.toNatClampNeg)]) (rest := []) X dX0_assumption_30 (c_J2_get hla hea a_.toNatClampNeg (A a_.toNatClampNeg) (by omega) (by omega) (by omega) (by rw [hfa _ (by omega)]; rfl)) (lw_V q532 q533 q534 q94 q535) hd_J2_get hla rfl (Nat.le_of_ble_eq_true rfl) (Nat.le_of_ble_eq_true rfl) (Nat.le_of_ble_eq_true rfl) (Nat.le_of_ble_eq_true rfl) rfl (Nat.le_of_ble_eq_true rfl)) (fun rr_ M_ h_ => ?_)
    obtain ⟨hr_, hm_⟩ := h_
    rw [hr_, hm_]
    clear hr_ hm_
    refine jv_castS X dX0_assumption_33 (hA a_.toNatClampNeg (by omega)).2 (r := (RX12, TX12, 2)) rfl q1106 ?_
    refine jv_astore_n (lv' := [(3, .ref (A a_.toNatClampNeg)), (0, .ref xa), (1, .int (nI a_.toNatClampNeg)), (2, .int (bI bb))]) X dX0_assumption_36 rfl (by decide) rfl ?_
    refine jv_iload_n X dX0_assumption_37 3 rfl ?_
    refine jb_if_eq 48 X dX0_assumption_38 (by decide) (fun c38 => ?_) (fun c38 => ?_)
    · skip
      refine jv_aload_n X dX0_assumption_48 0 rfl ?_
      refine jv_getN X dX0_assumption_49 (hA a_.toNatClampNeg (by omega)).2 (T := TX12) (N := 2) (C := RX12) rfl in_X12 0 (by decide) q1117 rfl rfl ?_
      exact jv_iret (v := nI (v_asm S a_.toNatClampNeg 0)) X dX0_assumption_52 rfl hQ (Nat.le_of_ble_eq_true rfl) (Nat.le_of_ble_eq_true rfl) ⟨(by unfold m_assumption; rw [if_pos c17, c38]; rfl), rfl⟩
    · skip
      refine jv_aload_n X dX0_assumption_41 0 rfl ?_
      refine jv_getN X dX0_assumption_42 (hA a_.toNatClampNeg (by omega)).2 (T := TX12) (N := 2) (C := RX12) rfl in_X12 1 (by decide) q1122 rfl rfl ?_
      refine jv_goto 52 X dX0_assumption_45 (by decide) ?_
      exact jv_iret (v := nI (v_asm S a_.toNatClampNeg 1)) X dX0_assumption_52 rfl hQ (Nat.le_of_ble_eq_true rfl) (Nat.le_of_ble_eq_true rfl) ⟨(by unfold m_assumption; rw [if_pos c17, c38]; rfl), rfl⟩
  · skip
    refine jv_iconst (v := (-1)) X dX0_assumption_20 rfl ?_
    exact jv_iret (v := (-1)) X dX0_assumption_21 rfl hQ (Nat.le_of_ble_eq_true rfl) (Nat.le_of_ble_eq_true rfl) ⟨(by unfold m_assumption; rw [if_neg (by rw [c17]; decide)]), rfl⟩
theorem hd_X0_latest : jv_dd yX0_latest 2 := by unfold jv_dd; decide +kernel
set_option maxHeartbeats 4000000 in
theorem c_X0_latest {l : Launch} {G : jv_G} {M : jv_M} {σ : jk_A} (hG : jk_G G σ) {τ : Nat → Nat} {xa b pa ip rp : Nat} {sv : Option Nat} {eA_ fA_ : Int32} {S : Nat → Nat} (hx : M xa = some (.inr (0, [.ref b, .ref pa, .ref ip, .ref rp, va_rf sv,   .int eA_, .int fA_]))) (hB : jbd G M τ b S) (hS : wfS S) (hL : wfL S) (hPP : wfP S) (p_ : Int32) (r_ : Int32)  : jv_Ct G l yX0_latest cX0_latest 6 (some .int) 7 40 200 164 [.ref xa, .int p_, .int r_] M (jv_qi G (jv_pi (m_latest S p_ r_) M)) := by
  refine jv_Ct.of (lv := [(0, .ref xa), (1, .int p_), (2, .int r_)]) (by decide) (Nat.le_of_ble_eq_true rfl) rfl ?_
  intro x Q_ hl_ hQ X
  subst hl_
  have hB_ := hB
  obtain ⟨lp, lr, la, P, R, A, hb, hfb, ⟨⟨mp_, ep, fp, hlp, hep, hn6, hfp, -, -, -⟩, hP⟩, ⟨⟨mr_, er, fr_, hlr, her, hn30, hfr_, -, -, -⟩, hR⟩, ⟨ma_, ea, fa, hla, hea, hn6a, hfa, -, -, -⟩, hA⟩ := hB
  have hW := hS.1
  have hp0 := hW.p
  have hr0 := hW.r
  have ha0 := hW.a
  refine jv_aload_n X dX0_latest_0 0 rfl ?_
  refine jv_iload_n X dX0_latest_1 1 rfl ?_
  refine jv_iload_n X dX0_latest_2 2 rfl ?_
  refine jv_ask (jv_runV (As := [.int p_, .int r_]) (rest := []) X dX0_latest_3 (c_X0_covers hG hx hB_ hS hL hPP p_ r_) (lw_V q675 q638 q639 q90 q640) hd_X0_covers hx rfl (Nat.le_of_ble_eq_true rfl) (Nat.le_of_ble_eq_true rfl) (by omega) (by omega) rfl (Nat.le_of_ble_eq_true rfl)) ?_
  refine jv_istore_n (lv' := [(3, .int (m_covers S p_ r_)), (0, .ref xa), (1, .int p_), (2, .int r_)]) X dX0_latest_6 rfl (by decide) rfl ?_
  refine jv_iload_n X dX0_latest_7 0 rfl ?_
  refine jv_if_ge 13 X dX0_latest_8 (by decide) (fun c8 => ?_) (fun c8 => ?_)
  · skip
    obtain ⟨h1_, h2_⟩ := mcov_pos c8
    have hpn_ := (v_isPack_n hW h1_).1
    have hcl_ := cov_lt hW (show p_.toNatClampNeg < 6 by omega) r_.toNatClampNeg
    rw [show m_covers S p_ r_ = nI (cov S p_.toNatClampNeg r_.toNatClampNeg) by unfold m_covers; rw [if_pos h1_, if_pos h2_]]
    refine jv_bipush (v := (-5)) X dX0_latest_13 rfl ?_
    have hq_p_ : nI (p_.toNatClampNeg) = p_ := (v_isPack_n hW h1_).2
    refine jv_to (lv' := [(3, .int (nI (cov S p_.toNatClampNeg r_.toNatClampNeg))), (0, .ref xa), (1, .int (nI p_.toNatClampNeg)), (2, .int r_)]) (st' := [.int (-5)]) (by rw [hq_p_]) rfl ?_
    refine jv_istore (lv' := [(4, .int (-5)), (3, .int (nI (cov S p_.toNatClampNeg r_.toNatClampNeg))), (0, .ref xa), (1, .int (nI p_.toNatClampNeg)), (2, .int r_)]) X dX0_latest_15 (by decide) rfl ?_
    refine jv_iconst (v := nI 0) X dX0_latest_17 rfl ?_
    refine jv_istore (lv' := [(5, .int (nI 0)), (4, .int (-5)), (3, .int (nI (cov S p_.toNatClampNeg r_.toNatClampNeg))), (0, .ref xa), (1, .int (nI p_.toNatClampNeg)), (2, .int r_)]) X dX0_latest_18 (by decide) rfl ?_
    have lp20_1 : ∀ (d_20 : Nat) (k : Nat) (b_ : Int32), k ≤ 5 → b_ = latN S p_.toNatClampNeg r_.toNatClampNeg k → 5 - k < d_20 → jv_J x G 6 Q_ M (11 + 2 * k) (40 + 8 * k) 20 [(0, .ref xa), (1, .int (nI p_.toNatClampNeg)), (2, .int r_), (3, .int (nI (cov S p_.toNatClampNeg r_.toNatClampNeg))), (4, .int b_), (5, .int (nI k))] [] := by
      intro d_20
      induction d_20 with
      | zero => intro k b_ hk5 hb_ hm_20; exact absurd hm_20 (Nat.not_lt_zero _)
      | succ d_20 ih_20 =>
        intro k b_ hk5 hb_ hm_20
        refine jv_iload X dX0_latest_20 5 rfl ?_
        refine jv_iconst (v := nI 5) X dX0_latest_22 rfl ?_
        refine jn_icmp_ge 91 X dX0_latest_23 (by decide) (by omega) (by decide) (fun c23 => ?_) (fun c23 => ?_)
        · skip
          refine jv_iload X dX0_latest_91 4 rfl ?_
          exact jv_iret (v := b_) X dX0_latest_93 rfl hQ (by omega) (by omega) ⟨(by unfold m_latest; rw [if_pos h1_, if_pos h2_, hb_, show k = v_of S p_.toNatClampNeg 0 + (5 - v_of S p_.toNatClampNeg 0) by have := hW.nv (show p_.toNatClampNeg < 6 by omega); omega]; exact latN_5 (covN_lt _ _ _ _) _), rfl⟩
        · skip
          refine jv_iload_n X dX0_latest_26 3 rfl ?_
          refine jv_iload X dX0_latest_27 5 rfl ?_
          refine jv_ask (jv_runS (As := [.int (nI (cov S p_.toNatClampNeg r_.toNatClampNeg)), .int (nI k)]) (rest := []) X dX0_latest_29 (c_X0_has (nI (cov S p_.toNatClampNeg r_.toNatClampNeg)) (nI k)) (lw_S q676 q677 q90 q678) hd_X0_has (Nat.le_of_ble_eq_true rfl) (Nat.le_of_ble_eq_true rfl) (by omega) (by omega) rfl (Nat.le_of_ble_eq_true rfl)) ?_
          refine jb_if_eq 85 X dX0_latest_32 (by decide) (fun c32 => ?_) (fun c32 => ?_)
          · skip
            refine jv_iinc (v := nI (k + 1)) (lv' := [(5, .int (nI (k + 1))), (0, .ref xa), (1, .int (nI p_.toNatClampNeg)), (2, .int r_), (3, .int (nI (cov S p_.toNatClampNeg r_.toNatClampNeg))), (4, .int b_)]) X dX0_latest_85 5 rfl (nI_1 _) (by decide) rfl ?_
            refine jv_goto 20 X dX0_latest_88 (by decide) ?_
            refine jv_lv (lv' := [(0, .ref xa), (1, .int (nI p_.toNatClampNeg)), (2, .int r_), (3, .int (nI (cov S p_.toNatClampNeg r_.toNatClampNeg))), (4, .int b_), (5, .int (nI (k + 1)))]) [1, 2, 3, 4, 5, 0] rfl ?_
            exact jv_widen (by omega) (by omega) (ih_20 (k + 1) b_ (by omega) (by show _ = (if cov S p_.toNatClampNeg r_.toNatClampNeg / 2 ^ k &&& 1 = 1 then (if latN S p_.toNatClampNeg r_.toNatClampNeg k = (-5) then nI k else (if bef S p_.toNatClampNeg k ≤ bef S p_.toNatClampNeg (latN S p_.toNatClampNeg r_.toNatClampNeg k).toNatClampNeg then latN S p_.toNatClampNeg r_.toNatClampNeg k else nI k)) else latN S p_.toNatClampNeg r_.toNatClampNeg k); rw [if_neg (by rw [hasI_b (show cov S p_.toNatClampNeg r_.toNatClampNeg < 2 ^ 31 by omega) (show k < 32 by omega)] at c32; intro z; rw [if_pos z] at c32; cases c32)]; exact hb_) (by omega))
          · skip
            have hbk_ : cov S p_.toNatClampNeg r_.toNatClampNeg / 2 ^ k &&& 1 = 1 := by
              rw [hasI_b (show cov S p_.toNatClampNeg r_.toNatClampNeg < 2 ^ 31 by omega) (show k < 32 by omega)] at c32
              exact Classical.byContradiction fun z => by rw [if_neg z] at c32; cases c32
            have hkv_ := cov_bit (p := p_.toNatClampNeg) (r := r_.toNatClampNeg) (v := k) (by rw [Nat.and_one_is_mod] at hbk_; exact hbk_)
            refine jv_iload X dX0_latest_35 4 rfl ?_
            refine jv_if_lt 81 X dX0_latest_37 (by decide) (fun c37 => ?_) (fun c37 => ?_)
            · skip
              refine jv_iload X dX0_latest_81 5 rfl ?_
              refine jv_istore (lv' := [(4, .int (nI k)), (0, .ref xa), (1, .int (nI p_.toNatClampNeg)), (2, .int r_), (3, .int (nI (cov S p_.toNatClampNeg r_.toNatClampNeg))), (5, .int (nI k))]) X dX0_latest_83 (by decide) rfl ?_
              refine jv_iinc (v := nI (k + 1)) (lv' := [(5, .int (nI (k + 1))), (4, .int (nI k)), (0, .ref xa), (1, .int (nI p_.toNatClampNeg)), (2, .int r_), (3, .int (nI (cov S p_.toNatClampNeg r_.toNatClampNeg)))]) X dX0_latest_85 5 rfl (nI_1 _) (by decide) rfl ?_
              refine jv_goto 20 X dX0_latest_88 (by decide) ?_
              refine jv_lv (lv' := [(0, .ref xa), (1, .int (nI p_.toNatClampNeg)), (2, .int r_), (3, .int (nI (cov S p_.toNatClampNeg r_.toNatClampNeg))), (4, .int (nI k)), (5, .int (nI (k + 1)))]) [2, 3, 4, 5, 1, 0] rfl ?_
              exact jv_widen (by omega) (by omega) (ih_20 (k + 1) (nI k) (by omega) (by show _ = (if cov S p_.toNatClampNeg r_.toNatClampNeg / 2 ^ k &&& 1 = 1 then (if latN S p_.toNatClampNeg r_.toNatClampNeg k = (-5) then nI k else (if bef S p_.toNatClampNeg k ≤ bef S p_.toNatClampNeg (latN S p_.toNatClampNeg r_.toNatClampNeg k).toNatClampNeg then latN S p_.toNatClampNeg r_.toNatClampNeg k else nI k)) else latN S p_.toNatClampNeg r_.toNatClampNeg k); rw [if_pos hbk_, if_pos ((latN_neg (by omega)).mp (hb_ ▸ c37))]) (by omega))
            · skip
              have hb5_ : ¬ latN S p_.toNatClampNeg r_.toNatClampNeg k = (-5) := fun z => c37 ((latN_neg (by omega)).mpr z |> fun y => by rw [hb_]; exact y)
              have hbn_ := latN_n (by omega) hb_ (by rw [hb_]; exact hb5_)
              refine jv_aload_n X dX0_latest_40 0 rfl ?_
              have hq_b_ : nI (b_.toNatClampNeg) = b_ := hbn_.2
              refine jv_to (lv' := [(0, .ref xa), (1, .int (nI p_.toNatClampNeg)), (2, .int r_), (3, .int (nI (cov S p_.toNatClampNeg r_.toNatClampNeg))), (4, .int (nI b_.toNatClampNeg)), (5, .int (nI k))]) (st' := [.ref xa]) (by rw [hq_b_]) rfl ?_
              refine jv_get X dX0_latest_41 hx (T := TX0) (N := 7) (C := RX0) rfl in_X0 0 (by decide) q257 rfl rfl ?_
              refine jv_getN X dX0_latest_44 hb (T := TX1) (N := 3) (C := RX1) rfl in_X1 0 (by decide) q183 rfl rfl ?_
              refine jv_iload_n X dX0_latest_47 1 rfl ?_
              refine jv_callr (jv_runV (As := [.int (nI p_.toNatClampNeg)]) (rest := []) X dX0_latest_48 (c_J2_get hlp hep p_.toNatClampNeg (P p_.toNatClampNeg) (by omega) (by omega) (by omega) (by rw [hfp _ (by omega)]; rfl)) (lw_V q532 q533 q534 q94 q535) hd_J2_get hlp rfl (Nat.le_of_ble_eq_true rfl) (Nat.le_of_ble_eq_true rfl) (by omega) (by omega) rfl (Nat.le_of_ble_eq_true rfl)) (fun rr_ M_ h_ => ?_)
              obtain ⟨hr_, hm_⟩ := h_
              rw [hr_, hm_]
              clear hr_ hm_
              obtain ⟨lv_3, V_3, hpk_3, -, ⟨mv_3, ev_3, fv_3, hlv_3, hev_3, hnv_3, hfv_3, -, -, -⟩, hvv_3⟩ := hP p_.toNatClampNeg (by omega)
              have hnv5_3 := hW.nv (show p_.toNatClampNeg < 6 by omega)
              refine jv_castS X dX0_latest_51 hpk_3 (r := (RX3, TX3, 2)) rfl q465 ?_
              refine jv_iload X dX0_latest_54 5 rfl ?_
              refine jv_ask (jv_runV (As := [.int (nI k)]) (rest := []) X dX0_latest_56 (c_X3_rank hG (hP p_.toNatClampNeg (by omega)) hW (by omega) k (by omega)) (lw_V q679 q680 q681 q102 q682) hd_X3_rank hpk_3 rfl (Nat.le_of_ble_eq_true rfl) (Nat.le_of_ble_eq_true rfl) (by omega) (by omega) rfl (Nat.le_of_ble_eq_true rfl)) ?_
              refine jv_aload_n X dX0_latest_59 0 rfl ?_
              refine jv_get X dX0_latest_60 hx (T := TX0) (N := 7) (C := RX0) rfl in_X0 0 (by decide) q257 rfl rfl ?_
              refine jv_getN X dX0_latest_63 hb (T := TX1) (N := 3) (C := RX1) rfl in_X1 0 (by decide) q183 rfl rfl ?_
              refine jv_iload_n X dX0_latest_66 1 rfl ?_
              refine jv_callr (jv_runV (As := [.int (nI p_.toNatClampNeg)]) (rest := [.int (nI (bef S p_.toNatClampNeg k))]) X dX0_latest_67 (c_J2_get hlp hep p_.toNatClampNeg (P p_.toNatClampNeg) (by omega) (by omega) (by omega) (by rw [hfp _ (by omega)]; rfl)) (lw_V q532 q533 q534 q94 q535) hd_J2_get hlp rfl (Nat.le_of_ble_eq_true rfl) (Nat.le_of_ble_eq_true rfl) (by omega) (by omega) rfl (Nat.le_of_ble_eq_true rfl)) (fun rr_ M_ h_ => ?_)
              obtain ⟨hr_, hm_⟩ := h_
              rw [hr_, hm_]
              clear hr_ hm_
              obtain ⟨lv_5, V_5, hpk_5, -, ⟨mv_5, ev_5, fv_5, hlv_5, hev_5, hnv_5, hfv_5, -, -, -⟩, hvv_5⟩ := hP p_.toNatClampNeg (by omega)
              have hnv5_5 := hW.nv (show p_.toNatClampNeg < 6 by omega)
              refine jv_castS X dX0_latest_70 hpk_5 (r := (RX3, TX3, 2)) rfl q465 ?_
              refine jv_iload X dX0_latest_73 4 rfl ?_
              refine jv_ask (jv_runV (As := [.int (nI b_.toNatClampNeg)]) (rest := [.int (nI (bef S p_.toNatClampNeg k))]) X dX0_latest_75 (c_X3_rank hG (hP p_.toNatClampNeg (by omega)) hW (by omega) b_.toNatClampNeg (by omega)) (lw_V q679 q680 q681 q102 q682) hd_X3_rank hpk_5 rfl (Nat.le_of_ble_eq_true rfl) (Nat.le_of_ble_eq_true rfl) (by omega) (by omega) rfl (Nat.le_of_ble_eq_true rfl)) ?_
              refine jn_icmp_le 85 X dX0_latest_78 (by decide) (by have := bef_le hW (show p_.toNatClampNeg < 6 by omega) k; omega) (by have := bef_le hW (show p_.toNatClampNeg < 6 by omega) b_.toNatClampNeg; omega) (fun c78 => ?_) (fun c78 => ?_)
              · skip
                refine jv_iinc (v := nI (k + 1)) (lv' := [(5, .int (nI (k + 1))), (0, .ref xa), (1, .int (nI p_.toNatClampNeg)), (2, .int r_), (3, .int (nI (cov S p_.toNatClampNeg r_.toNatClampNeg))), (4, .int (nI b_.toNatClampNeg))]) X dX0_latest_85 5 rfl (nI_1 _) (by decide) rfl ?_
                refine jv_goto 20 X dX0_latest_88 (by decide) ?_
                refine jv_lv (lv' := [(0, .ref xa), (1, .int (nI p_.toNatClampNeg)), (2, .int r_), (3, .int (nI (cov S p_.toNatClampNeg r_.toNatClampNeg))), (4, .int (nI b_.toNatClampNeg)), (5, .int (nI (k + 1)))]) [1, 2, 3, 4, 5, 0] rfl ?_
                exact jv_widen (by omega) (by omega) (ih_20 (k + 1) (nI b_.toNatClampNeg) (by omega) (by show _ = (if cov S p_.toNatClampNeg r_.toNatClampNeg / 2 ^ k &&& 1 = 1 then (if latN S p_.toNatClampNeg r_.toNatClampNeg k = (-5) then nI k else (if bef S p_.toNatClampNeg k ≤ bef S p_.toNatClampNeg (latN S p_.toNatClampNeg r_.toNatClampNeg k).toNatClampNeg then latN S p_.toNatClampNeg r_.toNatClampNeg k else nI k)) else latN S p_.toNatClampNeg r_.toNatClampNeg k); rw [if_pos hbk_, if_neg hb5_, if_pos (by rw [← hb_]; exact c78), ← hb_]; exact hbn_.2) (by omega))
              · skip
                refine jv_iload X dX0_latest_81 5 rfl ?_
                refine jv_istore (lv' := [(4, .int (nI k)), (0, .ref xa), (1, .int (nI p_.toNatClampNeg)), (2, .int r_), (3, .int (nI (cov S p_.toNatClampNeg r_.toNatClampNeg))), (5, .int (nI k))]) X dX0_latest_83 (by decide) rfl ?_
                refine jv_iinc (v := nI (k + 1)) (lv' := [(5, .int (nI (k + 1))), (4, .int (nI k)), (0, .ref xa), (1, .int (nI p_.toNatClampNeg)), (2, .int r_), (3, .int (nI (cov S p_.toNatClampNeg r_.toNatClampNeg)))]) X dX0_latest_85 5 rfl (nI_1 _) (by decide) rfl ?_
                refine jv_goto 20 X dX0_latest_88 (by decide) ?_
                refine jv_lv (lv' := [(0, .ref xa), (1, .int (nI p_.toNatClampNeg)), (2, .int r_), (3, .int (nI (cov S p_.toNatClampNeg r_.toNatClampNeg))), (4, .int (nI k)), (5, .int (nI (k + 1)))]) [2, 3, 4, 5, 1, 0] rfl ?_
                exact jv_widen (by omega) (by omega) (ih_20 (k + 1) (nI k) (by omega) (by show _ = (if cov S p_.toNatClampNeg r_.toNatClampNeg / 2 ^ k &&& 1 = 1 then (if latN S p_.toNatClampNeg r_.toNatClampNeg k = (-5) then nI k else (if bef S p_.toNatClampNeg k ≤ bef S p_.toNatClampNeg (latN S p_.toNatClampNeg r_.toNatClampNeg k).toNatClampNeg then latN S p_.toNatClampNeg r_.toNatClampNeg k else nI k)) else latN S p_.toNatClampNeg r_.toNatClampNeg k); rw [if_pos hbk_, if_neg hb5_, if_neg (by rw [← hb_]; exact Nat.not_le.mpr c78)]) (by omega))
    refine jv_lv (lv' := [(0, .ref xa), (1, .int (nI p_.toNatClampNeg)), (2, .int r_), (3, .int (nI (cov S p_.toNatClampNeg r_.toNatClampNeg))), (4, .int (-5)), (5, .int (nI 0))]) [3, 4, 5, 2, 1, 0] rfl ?_
    exact jv_widen (Nat.le_refl _) (Nat.le_refl _) (lp20_1 (5 + 1) 0 (-5) (Nat.zero_le _) rfl (by omega))
  · skip
    refine jv_iload_n X dX0_latest_11 0 rfl ?_
    exact jv_iret (v := m_covers S p_ r_) X dX0_latest_12 rfl hQ (Nat.le_of_ble_eq_true rfl) (Nat.le_of_ble_eq_true rfl) ⟨(mcov_neg hW c8).symm, rfl⟩
