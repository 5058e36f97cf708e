/-! reference, tenth -/
set_option maxRecDepth 100000
theorem hd_X2_solutionsBy : jv_dd yX2_solutionsBy 2 := by unfold jv_dd; decide +kernel
set_option maxHeartbeats 4000000 in
theorem c_X2_solutionsBy {l : Launch} {G : jv_G} {o : md_O} {F : Nat → Int32} {A : Nat → Nat → Int32} {S : Nat → Nat} (hO : md_K G o) (hS : ∀ j, j < 237 → A 0 j = nI (S j)) (hWs : wfS S) (hL : wfL S) (m : Int32) (most : Nat) (hmost : most < 2 ^ 31) : jv_Ct G l yX2_solutionsBy cX2_solutionsBy 4 (some .int) 12 0 0 289 [.ref o.2.1, .int m, .int (nI most)] (md_M G o F A) (jv_qi G (fun r M' => ∃ F' A', M' = md_M G o F' A' ∧ r = nI (solY S m most).1 ∧ isY S F' A' (solY S m most) ∧ ktY 0 F A F' A')) := by
  refine jv_Ct.of (lv := [(0, .ref o.2.1), (1, .int m), (2, .int (nI most))]) (by decide) (Nat.le_of_ble_eq_true rfl) rfl ?_
  intro x Q_ hl_ hQ X
  subst hl_
  have hW := hWs.1
  have hS0 := hW.p
  have hrr := hW.r
  have h2_ := hW.a
  refine jv_aload_n X dX2_solutionsBy_0 0 rfl ?_
  refine jv_iconst (v := nI 0) X dX2_solutionsBy_1 rfl ?_
  refine jm_putF (ty := .int) (v := nI 0) X hO dX2_solutionsBy_2 21 (by decide) q2031 rfl rfl rfl rfl rfl ?_
  refine jv_iconst (v := nI 0) X dX2_solutionsBy_5 rfl ?_
  refine jv_istore_n (lv' := [(3, .int (nI 0)), (0, .ref o.2.1), (1, .int m), (2, .int (nI most))]) X dX2_solutionsBy_6 rfl (by decide) rfl ?_
  have lp7_1 : ∀ (d_7 : Nat) (q : Nat) (A1 : Nat → Nat → Int32), q ≤ 6 → (∀ i, i ≠ 20 → A1 i = A i) → (∀ t, t < q → A1 20 t = nI 0) → 6 - q < d_7 → jv_J x G 4 Q_ (md_M G o (upd F 21 (nI 0)) A1) 0 0 7 [(0, .ref o.2.1), (1, .int m), (2, .int (nI most)), (3, .int (nI q))] [] := by
    intro d_7
    induction d_7 with
    | zero => intro q A1 hq hB h20 hm_7; exact absurd hm_7 (Nat.not_lt_zero _)
    | succ d_7 ih_7 =>
      intro q A1 hq hB h20 hm_7
      refine jv_iload_n X dX2_solutionsBy_7 3 rfl ?_
      refine jv_bipush (v := nI 6) X dX2_solutionsBy_8 rfl ?_
      refine jn_icmp_ge 26 X dX2_solutionsBy_10 (by decide) (by omega) (by decide) (fun c10 => ?_) (fun c10 => ?_)
      · skip
        obtain ⟨F1, hF1⟩ : ∃ F1, F1 = upd F 21 (nI 0) := ⟨_, rfl⟩
        rw [← hF1]
        have hS1 : ∀ j, j < 237 → A1 0 j = nI (S j) := fun j hj => by rw [hB 0 (by decide)]; exact hS j hj
        have hY1 : isY S F1 A1 (0, (fun _ => 0), fun _ => 0) := ⟨by rw [hF1]; exact pk_us, fun z => absurd rfl z, fun q hq => h20 q (by omega)⟩
        have hK1 : ktY 0 F A F1 A1 := ⟨fun k a => by rw [hF1]; simp [upd, a], fun k a b c => hB k c, fun q hq => absurd hq (Nat.not_lt_zero _)⟩
        refine jv_aload_n X dX2_solutionsBy_26 0 rfl ?_
        refine jv_iconst (v := nI 0) X dX2_solutionsBy_27 rfl ?_
        refine jv_iload_n X dX2_solutionsBy_28 1 rfl ?_
        refine jv_iload_n X dX2_solutionsBy_29 2 rfl ?_
        refine jv_callv (jv_runV (As := [.int (nI 0), .int m, .int (nI most)]) (rest := []) X dX2_solutionsBy_30 (c_X2_tries hO hWs hL m most hmost (S 0) 0 (by omega) F1 A1 (fun _ => 0) (0, (fun _ => 0), fun _ => 0) hS1 (fun q hq => absurd hq (Nat.not_lt_zero _)) (fun q hq => absurd hq (Nat.not_lt_zero _)) hY1 (pow6 hS0)) (lw_V q2327 q2329 qs70 q100 q2330) hd_X2_tries md_M_o rfl (by omega) (by omega) (Nat.le_of_ble_eq_true rfl) (Nat.le_of_ble_eq_true rfl) rfl (Nat.le_of_ble_eq_true rfl)) (fun M_ h_ => ?_)
        obtain ⟨F2, A2, rfl, hY2, hK2⟩ := h_
        refine jv_aload_n X dX2_solutionsBy_33 0 rfl ?_
        refine jm_getF (v := nI ((solY S m most).1)) X dX2_solutionsBy_34 21 (by decide) q2031 rfl hY2.1 ?_
        exact jv_iret (v := nI ((solY S m most).1)) X dX2_solutionsBy_37 rfl hQ (Nat.le_of_ble_eq_true rfl) (Nat.le_of_ble_eq_true rfl) ⟨_, _, rfl, ⟨rfl, hY2, hK1.tr hK2⟩⟩
      · skip
        refine jv_aload_n X dX2_solutionsBy_13 0 rfl ?_
        refine jm_getA X dX2_solutionsBy_14 20 (by decide) q2030 rfl ?_
        refine jv_iload_n X dX2_solutionsBy_17 3 rfl ?_
        refine jv_iconst (v := nI 0) X dX2_solutionsBy_18 rfl ?_
        refine jm_st (v := nI 0) X hO dX2_solutionsBy_19 20 (by decide) (show q < 6 from (by omega)) ?_
        refine jv_iinc (v := nI (q + 1)) (lv' := [(3, .int (nI (q + 1))), (0, .ref o.2.1), (1, .int m), (2, .int (nI most))]) X dX2_solutionsBy_20 3 rfl (nI_1 _) (by decide) rfl ?_
        refine jv_goto 7 X dX2_solutionsBy_23 (by decide) ?_
        refine jv_lv (lv' := [(0, .ref o.2.1), (1, .int m), (2, .int (nI most)), (3, .int (nI (q + 1)))]) [1, 2, 3, 0] rfl ?_
        exact ih_7 (q + 1) (mdA A1 20 q (nI 0)) (by omega) (fun i hi => by rw [mdA_i hi]; exact hB i hi) (fun t ht => by by_cases e : t = q; (rw [e, mdA_s]); (rw [mdA_o e]; exact h20 t (by omega))) (by omega)
  refine jv_lv (lv' := [(0, .ref o.2.1), (1, .int m), (2, .int (nI most)), (3, .int (nI 0))]) [1, 2, 3, 0] rfl ?_
  exact lp7_1 (6 + 1) 0 A (Nat.zero_le _) (fun _ _ => rfl) (fun t ht => absurd ht (Nat.not_lt_zero _)) (by omega)
theorem hd_X2_solutions : jv_dd yX2_solutions 0 := by unfold jv_dd; decide +kernel
set_option maxHeartbeats 4000000 in
theorem c_X2_solutions {l : Launch} {G : jv_G} {o : md_O} {F : Nat → Int32} {A : Nat → Nat → Int32} {S : Nat → Nat} (hO : md_K G o) (hS : ∀ j, j < 237 → A 0 j = nI (S j)) (hWs : wfS S) (hL : wfL S)   : jv_Ct G l yX2_solutions cX2_solutions 1 (some .int) 13 0 0 312 [.ref o.2.1] (md_M G o F A) (jv_qi G (fun r M' => ∃ F' A', M' = md_M G o F' A' ∧ r = nI (m_solutions S) ∧ ktY 0 F A F' A')) := by
  refine jv_Ct.of (lv := [(0, .ref o.2.1)]) (by decide) (Nat.le_of_ble_eq_true rfl) rfl ?_
  intro x Q_ hl_ hQ X
  subst hl_
  have hW := hWs.1
  have hS0 := hW.p
  have hrr := hW.r
  have h2_ := hW.a
  refine jv_aload_n X dX2_solutions_0 0 rfl ?_
  refine jv_ldc (v := nI 1073741823) X dX2_solutions_1 q2321 ?_
  refine jv_ldc (v := nI 1000000) X dX2_solutions_3 q2322 ?_
  refine jv_calli (jv_runV (As := [.int (nI 1073741823), .int (nI 1000000)]) (rest := []) X dX2_solutions_5 (c_X2_solutionsBy hO hS hWs hL (nI 1073741823) 1000000 (by decide)) (lw_V q2323 q2325 qs69 q100 q2326) hd_X2_solutionsBy md_M_o rfl (Nat.le_of_ble_eq_true rfl) (Nat.le_of_ble_eq_true rfl) (Nat.le_of_ble_eq_true rfl) (Nat.le_of_ble_eq_true rfl) rfl (Nat.le_of_ble_eq_true rfl)) (fun r1 M_ h_ => ?_)
  obtain ⟨F1, A1, rfl, h1⟩ := h_
  obtain ⟨rfl, hY1, hK1⟩ := h1
  have hS1 := hK1.S hS
  have hn1 := sol_n hW (S := S) (m := (nI 1073741823)) (most := 1000000)
  exact jv_iret (v := nI ((solY S (nI 1073741823) 1000000).1)) X dX2_solutions_8 rfl hQ (Nat.le_of_ble_eq_true rfl) (Nat.le_of_ble_eq_true rfl) ⟨_, _, rfl, ⟨rfl, hK1⟩⟩
theorem hd_X2_best : jv_dd yX2_best 1 := by unfold jv_dd; decide +kernel
set_option maxHeartbeats 4000000 in
theorem c_X2_best {l : Launch} {G : jv_G} {o : md_O} {F : Nat → Int32} {A : Nat → Nat → Int32} {S : Nat → Nat} (hO : md_K G o) (hS : ∀ j, j < 237 → A 0 j = nI (S j)) (hWs : wfS S) (hL : wfL S) (p : Int32)  : jv_Ct G l yX2_best cX2_best 2 (some .int) 13 0 0 312 [.ref o.2.1, .int p] (md_M G o F A) (jv_qi G (fun r M' => ∃ F' A', M' = md_M G o F' A' ∧ r = m_best S p ∧ ktY 0 F A F' A')) := by
  refine jv_Ct.of (lv := [(0, .ref o.2.1), (1, .int p)]) (by decide) (Nat.le_of_ble_eq_true rfl) rfl ?_
  intro x Q_ hl_ hQ X
  subst hl_
  have hW := hWs.1
  have hS0 := hW.p
  have hrr := hW.r
  have h2_ := hW.a
  refine jv_aload_n X dX2_best_0 0 rfl ?_
  refine jv_iload_n X dX2_best_1 1 rfl ?_
  refine jv_ask (jv_runV (As := [.int p]) (rest := []) X dX2_best_2 (c_X2_isPack hO hS p) (lw_V q2108 q2110 qs41 q100 q2111) hd_X2_isPack md_M_o rfl (Nat.le_of_ble_eq_true rfl) (Nat.le_of_ble_eq_true rfl) (Nat.le_of_ble_eq_true rfl) (Nat.le_of_ble_eq_true rfl) rfl (Nat.le_of_ble_eq_true rfl)) ?_
  refine jb_if_ne 10 X dX2_best_5 (by decide) (fun c5 => ?_) (fun c5 => ?_)
  · skip
    refine jv_aload_n X dX2_best_10 0 rfl ?_
    refine jv_ldc (v := nI 1073741823) X dX2_best_11 q2321 ?_
    refine jv_iconst (v := nI 1) X dX2_best_13 rfl ?_
    refine jv_calli (jv_runV (As := [.int (nI 1073741823), .int (nI 1)]) (rest := []) X dX2_best_14 (c_X2_solutionsBy hO hS hWs hL (nI 1073741823) 1 (by decide)) (lw_V q2323 q2325 qs69 q100 q2326) hd_X2_solutionsBy md_M_o rfl (Nat.le_of_ble_eq_true rfl) (Nat.le_of_ble_eq_true rfl) (Nat.le_of_ble_eq_true rfl) (Nat.le_of_ble_eq_true rfl) rfl (Nat.le_of_ble_eq_true rfl)) (fun r1 M_ h_ => ?_)
    obtain ⟨F1, A1, rfl, h1⟩ := h_
    obtain ⟨rfl, hY1, hK1⟩ := h1
    have hS1 := hK1.S hS
    have hn1 := sol_n hW (S := S) (m := (nI 1073741823)) (most := 1)
    refine jn_if_ne 25 X dX2_best_17 (by decide) (by omega) (fun c17 => ?_) (fun c17 => ?_)
    · skip
      have hq_p : nI (p.toNatClampNeg) = p := (v_isPack_n hW c5).2
      refine jv_to (lv' := [(0, .ref o.2.1), (1, .int (nI p.toNatClampNeg))]) (st' := []) (by rw [hq_p]) rfl ?_
      have hp0 := (v_isPack_n hW c5).1
      refine jv_aload_n X dX2_best_25 0 rfl ?_
      refine jm_getA X dX2_best_26 19 (by decide) q2029 rfl ?_
      refine jv_iload_n X dX2_best_29 1 rfl ?_
      refine jm_ld (v := nI ((solY S (nI 1073741823) 1).2.1 p.toNatClampNeg)) X hO dX2_best_30 19 (by decide) (show p.toNatClampNeg < 6 from (by omega)) (hY1.2.1 c17 _ (by omega)) ?_
      exact jv_iret (v := nI ((solY S (nI 1073741823) 1).2.1 p.toNatClampNeg)) X dX2_best_31 rfl hQ (Nat.le_of_ble_eq_true rfl) (Nat.le_of_ble_eq_true rfl) ⟨_, _, rfl, ⟨((if_pos c5).trans (if_neg c17)).symm, hK1⟩⟩
    · skip
      refine jv_bipush (v := (-3)) X dX2_best_20 rfl ?_
      refine jv_goto 31 X dX2_best_22 (by decide) ?_
      exact jv_iret (v := (-3)) X dX2_best_31 rfl hQ (Nat.le_of_ble_eq_true rfl) (Nat.le_of_ble_eq_true rfl) ⟨_, _, rfl, ⟨((if_pos c5).trans (if_pos c17)).symm, hK1⟩⟩
  · skip
    refine jv_iconst (v := (-1)) X dX2_best_8 rfl ?_
    exact jv_iret (v := (-1)) X dX2_best_9 rfl hQ (Nat.le_of_ble_eq_true rfl) (Nat.le_of_ble_eq_true rfl) ⟨_, _, rfl, ⟨(if_neg (Bool.eq_false_iff.mp c5)).symm, ktY.rf⟩⟩
theorem hd_X2_without : jv_dd yX2_without 1 := by unfold jv_dd; decide +kernel
set_option maxHeartbeats 4000000 in
theorem c_X2_without {l : Launch} {G : jv_G} {o : md_O} {F : Nat → Int32} {A : Nat → Nat → Int32} {S : Nat → Nat} (hO : md_K G o) (hS : ∀ j, j < 237 → A 0 j = nI (S j)) (hWs : wfS S) (hL : wfL S) (r_ : Int32)  : jv_Ct G l yX2_without cX2_without 2 (some .int) 13 0 0 312 [.ref o.2.1, .int r_] (md_M G o F A) (jv_qi G (fun r M' => ∃ F' A', M' = md_M G o F' A' ∧ r = m_without S r_ ∧ ktY 0 F A F' A')) := by
  refine jv_Ct.of (lv := [(0, .ref o.2.1), (1, .int r_)]) (by decide) (Nat.le_of_ble_eq_true rfl) rfl ?_
  intro x Q_ hl_ hQ X
  subst hl_
  have hW := hWs.1
  have hS0 := hW.p
  have hrr := hW.r
  have h2_ := hW.a
  refine jv_aload_n X dX2_without_0 0 rfl ?_
  refine jv_iload_n X dX2_without_1 1 rfl ?_
  refine jv_ask (jv_runV (As := [.int r_]) (rest := []) X dX2_without_2 (c_X2_isRule hO hS r_) (lw_V q2201 q2203 qs53 q100 q2204) hd_X2_isRule md_M_o rfl (Nat.le_of_ble_eq_true rfl) (Nat.le_of_ble_eq_true rfl) (Nat.le_of_ble_eq_true rfl) (Nat.le_of_ble_eq_true rfl) rfl (Nat.le_of_ble_eq_true rfl)) ?_
  refine jb_if_eq 25 X dX2_without_5 (by decide) (fun c5 => ?_) (fun c5 => ?_)
  · skip
    refine jv_iconst (v := (-1)) X dX2_without_25 rfl ?_
    exact jv_iret (v := (-1)) X dX2_without_26 rfl hQ (Nat.le_of_ble_eq_true rfl) (Nat.le_of_ble_eq_true rfl) ⟨_, _, rfl, ⟨(if_neg (Bool.eq_false_iff.mp c5)).symm, ktY.rf⟩⟩
  · skip
    have hq_r_ : nI (r_.toNatClampNeg) = r_ := (v_isRule_n hW c5).2
    refine jv_to (lv' := [(0, .ref o.2.1), (1, .int (nI r_.toNatClampNeg))]) (st' := []) (by rw [hq_r_]) rfl ?_
    have hr0 := (v_isRule_n hW c5).1
    refine jv_aload_n X dX2_without_8 0 rfl ?_
    refine jv_ldc (v := nI 1073741823) X dX2_without_9 q2321 ?_
    refine jv_iconst (v := nI 1) X dX2_without_11 rfl ?_
    refine jv_iload_n X dX2_without_12 1 rfl ?_
    refine jv_ishl (w := nI (2 ^ r_.toNatClampNeg)) X dX2_without_13 (ni_shl1 (by omega)) ?_
    refine jv_iconst (v := (-1)) X dX2_without_14 rfl ?_
    refine jv_ixor (w := unv (2 ^ r_.toNatClampNeg)) X dX2_without_15 rfl ?_
    refine jv_iand (w := (nI 1073741823) &&& (unv (2 ^ r_.toNatClampNeg))) X dX2_without_16 rfl ?_
    refine jv_ldc (v := nI 1000000) X dX2_without_17 q2322 ?_
    refine jv_calli (jv_runV (As := [.int ((nI 1073741823) &&& (unv (2 ^ r_.toNatClampNeg))), .int (nI 1000000)]) (rest := []) X dX2_without_19 (c_X2_solutionsBy hO hS hWs hL ((nI 1073741823) &&& (unv (2 ^ r_.toNatClampNeg))) 1000000 (by decide)) (lw_V q2323 q2325 qs69 q100 q2326) hd_X2_solutionsBy md_M_o rfl (Nat.le_of_ble_eq_true rfl) (Nat.le_of_ble_eq_true rfl) (Nat.le_of_ble_eq_true rfl) (Nat.le_of_ble_eq_true rfl) rfl (Nat.le_of_ble_eq_true rfl)) (fun r1 M_ h_ => ?_)
    obtain ⟨F1, A1, rfl, h1⟩ := h_
    obtain ⟨rfl, hY1, hK1⟩ := h1
    have hS1 := hK1.S hS
    have hn1 := sol_n hW (S := S) (m := ((nI 1073741823) &&& (unv (2 ^ r_.toNatClampNeg)))) (most := 1000000)
    refine jv_goto 26 X dX2_without_22 (by decide) ?_
    exact jv_iret (v := nI ((solY S ((nI 1073741823) &&& (unv (2 ^ r_.toNatClampNeg))) 1000000).1)) X dX2_without_26 rfl hQ (Nat.le_of_ble_eq_true rfl) (Nat.le_of_ble_eq_true rfl) ⟨_, _, rfl, ⟨(if_pos c5).symm, hK1⟩⟩
theorem hd_X2_possible : jv_dd yX2_possible 1 := by unfold jv_dd; decide +kernel
set_option maxHeartbeats 4000000 in
theorem c_X2_possible {l : Launch} {G : jv_G} {o : md_O} {F : Nat → Int32} {A : Nat → Nat → Int32} {S : Nat → Nat} (hO : md_K G o) (hS : ∀ j, j < 237 → A 0 j = nI (S j)) (hWs : wfS S) (hL : wfL S) (p : Int32)  : jv_Ct G l yX2_possible cX2_possible 2 (some .int) 13 0 0 312 [.ref o.2.1, .int p] (md_M G o F A) (jv_qi G (fun r M' => ∃ F' A', M' = md_M G o F' A' ∧ r = m_possible S p ∧ ktY 0 F A F' A')) := by
  refine jv_Ct.of (lv := [(0, .ref o.2.1), (1, .int p)]) (by decide) (Nat.le_of_ble_eq_true rfl) rfl ?_
  intro x Q_ hl_ hQ X
  subst hl_
  have hW := hWs.1
  have hS0 := hW.p
  have hrr := hW.r
  have h2_ := hW.a
  refine jv_aload_n X dX2_possible_0 0 rfl ?_
  refine jv_iload_n X dX2_possible_1 1 rfl ?_
  refine jv_ask (jv_runV (As := [.int p]) (rest := []) X dX2_possible_2 (c_X2_isPack hO hS p) (lw_V q2108 q2110 qs41 q100 q2111) hd_X2_isPack md_M_o rfl (Nat.le_of_ble_eq_true rfl) (Nat.le_of_ble_eq_true rfl) (Nat.le_of_ble_eq_true rfl) (Nat.le_of_ble_eq_true rfl) rfl (Nat.le_of_ble_eq_true rfl)) ?_
  refine jb_if_ne 10 X dX2_possible_5 (by decide) (fun c5 => ?_) (fun c5 => ?_)
  · skip
    refine jv_aload_n X dX2_possible_10 0 rfl ?_
    refine jv_ldc (v := nI 1073741823) X dX2_possible_11 q2321 ?_
    refine jv_ldc (v := nI 1000000) X dX2_possible_13 q2322 ?_
    refine jv_calli (jv_runV (As := [.int (nI 1073741823), .int (nI 1000000)]) (rest := []) X dX2_possible_15 (c_X2_solutionsBy hO hS hWs hL (nI 1073741823) 1000000 (by decide)) (lw_V q2323 q2325 qs69 q100 q2326) hd_X2_solutionsBy md_M_o rfl (Nat.le_of_ble_eq_true rfl) (Nat.le_of_ble_eq_true rfl) (Nat.le_of_ble_eq_true rfl) (Nat.le_of_ble_eq_true rfl) rfl (Nat.le_of_ble_eq_true rfl)) (fun r1 M_ h_ => ?_)
    obtain ⟨F1, A1, rfl, h1⟩ := h_
    obtain ⟨rfl, hY1, hK1⟩ := h1
    have hS1 := hK1.S hS
    have hn1 := sol_n hW (S := S) (m := (nI 1073741823)) (most := 1000000)
    refine jv_pop X dX2_possible_18 rfl ?_
    have hq_p : nI (p.toNatClampNeg) = p := (v_isPack_n hW c5).2
    refine jv_to (lv' := [(0, .ref o.2.1), (1, .int (nI p.toNatClampNeg))]) (st' := []) (by rw [hq_p]) rfl ?_
    have hp0 := (v_isPack_n hW c5).1
    refine jv_aload_n X dX2_possible_19 0 rfl ?_
    refine jm_getA X dX2_possible_20 20 (by decide) q2030 rfl ?_
    refine jv_iload_n X dX2_possible_23 1 rfl ?_
    refine jm_ld (v := nI ((solY S (nI 1073741823) 1000000).2.2 p.toNatClampNeg)) X hO dX2_possible_24 20 (by decide) (show p.toNatClampNeg < 6 from (by omega)) (hY1.2.2 _ (by omega)) ?_
    exact jv_iret (v := nI ((solY S (nI 1073741823) 1000000).2.2 p.toNatClampNeg)) X dX2_possible_25 rfl hQ (Nat.le_of_ble_eq_true rfl) (Nat.le_of_ble_eq_true rfl) ⟨_, _, rfl, ⟨(if_pos c5).symm, hK1⟩⟩
  · skip
    refine jv_iconst (v := (-1)) X dX2_possible_8 rfl ?_
    exact jv_iret (v := (-1)) X dX2_possible_9 rfl hQ (Nat.le_of_ble_eq_true rfl) (Nat.le_of_ble_eq_true rfl) ⟨_, _, rfl, ⟨(if_neg (Bool.eq_false_iff.mp c5)).symm, ktY.rf⟩⟩
theorem hd_X2_core : jv_dd yX2_core 0 := by unfold jv_dd; decide +kernel
set_option maxHeartbeats 4000000 in
theorem c_X2_core {l : Launch} {G : jv_G} {o : md_O} {F : Nat → Int32} {A : Nat → Nat → Int32} {S : Nat → Nat} (hO : md_K G o) (hS : ∀ j, j < 237 → A 0 j = nI (S j)) (hWs : wfS S) (hL : wfL S)   : jv_Ct G l yX2_core cX2_core 3 (some .int) 13 0 0 312 [.ref o.2.1] (md_M G o F A) (jv_qi G (fun r M' => ∃ F' A', M' = md_M G o F' A' ∧ r = m_core S ∧ ktY 0 F A F' A')) := by
  refine jv_Ct.of (lv := [(0, .ref o.2.1)]) (by decide) (Nat.le_of_ble_eq_true rfl) rfl ?_
  intro x Q_ hl_ hQ X
  subst hl_
  have hW := hWs.1
  have hS0 := hW.p
  have hrr := hW.r
  have h2_ := hW.a
  refine jv_aload_n X dX2_core_0 0 rfl ?_
  refine jv_ldc (v := nI 1073741823) X dX2_core_1 q2321 ?_
  refine jv_iconst (v := nI 1) X dX2_core_3 rfl ?_
  refine jv_calli (jv_runV (As := [.int (nI 1073741823), .int (nI 1)]) (rest := []) X dX2_core_4 (c_X2_solutionsBy hO hS hWs hL (nI 1073741823) 1 (by decide)) (lw_V q2323 q2325 qs69 q100 q2326) hd_X2_solutionsBy md_M_o rfl (Nat.le_of_ble_eq_true rfl) (Nat.le_of_ble_eq_true rfl) (Nat.le_of_ble_eq_true rfl) (Nat.le_of_ble_eq_true rfl) rfl (Nat.le_of_ble_eq_true rfl)) (fun r1 M_ h_ => ?_)
  obtain ⟨F1, A1, rfl, h1⟩ := h_
  obtain ⟨rfl, hY1, hK1⟩ := h1
  have hS1 := hK1.S hS
  have hn1 := sol_n hW (S := S) (m := (nI 1073741823)) (most := 1)
  refine jn_if_le 13 X dX2_core_7 (by decide) (by omega) (fun c7 => ?_) (fun c7 => ?_)
  · skip
    refine jv_iconst (v := nI 0) X dX2_core_13 rfl ?_
    refine jv_istore_n (lv' := [(1, .int (nI 0)), (0, .ref o.2.1)]) X dX2_core_14 rfl (by decide) rfl ?_
    refine jv_iconst (v := nI 0) X dX2_core_15 rfl ?_
    refine jv_istore_n (lv' := [(2, .int (nI 0)), (1, .int (nI 0)), (0, .ref o.2.1)]) X dX2_core_16 rfl (by decide) rfl ?_
    have lp17_2 : ∀ (d_17 : Nat) (q : Nat) (u : Nat), q ≤ S 1 → u = cosN S q → S 1 - q < d_17 → jv_J x G 3 Q_ (md_M G o F1 A1) 0 0 17 [(0, .ref o.2.1), (1, .int (nI u)), (2, .int (nI q))] [] := by
      intro d_17
      induction d_17 with
      | zero => intro q u hq hu hm_17; exact absurd hm_17 (Nat.not_lt_zero _)
      | succ d_17 ih_17 =>
        intro q u hq hu hm_17
        refine jv_iload_n X dX2_core_17 2 rfl ?_
        refine jv_aload_n X dX2_core_18 0 rfl ?_
        refine jm_getA X dX2_core_19 0 (by decide) q2010 rfl ?_
        refine jv_iconst (v := nI 1) X dX2_core_22 rfl ?_
        refine jm_ld (v := nI (S 1)) X hO dX2_core_23 0 (by decide) (show 1 < 237 from (by omega)) (hS1 _ (by omega)) ?_
        refine jn_icmp_ge 53 X dX2_core_24 (by decide) (by omega) (by omega) (fun c24 => ?_) (fun c24 => ?_)
        · skip
          have hu1 : u = cosN S (S 1) := by rw [hu, show q = S 1 by omega]
          refine jv_iconst (v := nI 0) X dX2_core_53 rfl ?_
          refine jv_istore_n (lv' := [(2, .int (nI 0)), (0, .ref o.2.1), (1, .int (nI u))]) X dX2_core_54 rfl (by decide) rfl ?_
          have lp55_3 : ∀ (d_55 : Nat) (r : Nat) (w : Int32) (F2 : Nat → Int32) (A2 : Nat → Nat → Int32), r ≤ S 1 → (∀ j, j < 237 → A2 0 j = nI (S j)) → ktY 0 F A F2 A2 → corN S (S 1 - r) r w = corN S (S 1) 0 (nI (cosN S (S 1))) → S 1 - r < d_55 → jv_J x G 3 Q_ (md_M G o F2 A2) 0 0 55 [(0, .ref o.2.1), (1, .int w), (2, .int (nI r))] [] := by
            intro d_55
            induction d_55 with
            | zero => intro r w F2 A2 hr hS2_ hK2_ hf hm_55; exact absurd hm_55 (Nat.not_lt_zero _)
            | succ d_55 ih_55 =>
              intro r w F2 A2 hr hS2_ hK2_ hf hm_55
              refine jv_iload_n X dX2_core_55 2 rfl ?_
              refine jv_aload_n X dX2_core_56 0 rfl ?_
              refine jm_getA X dX2_core_57 0 (by decide) q2010 rfl ?_
              refine jv_iconst (v := nI 1) X dX2_core_60 rfl ?_
              refine jm_ld (v := nI (S 1)) X hO dX2_core_61 0 (by decide) (show 1 < 237 from (by omega)) (hS2_ _ (by omega)) ?_
              refine jn_icmp_ge 103 X dX2_core_62 (by decide) (by omega) (by omega) (fun c62 => ?_) (fun c62 => ?_)
              · skip
                refine jv_iload_n X dX2_core_103 1 rfl ?_
                exact jv_iret (v := w) X dX2_core_104 rfl hQ (Nat.le_of_ble_eq_true rfl) (Nat.le_of_ble_eq_true rfl) ⟨_, _, rfl, ⟨by rw [m_core, if_pos (by omega), ← hf, show S 1 - r = 0 by omega]; rfl, hK2_⟩⟩
              · skip
                refine jv_iload_n X dX2_core_65 1 rfl ?_
                refine jv_iload_n X dX2_core_66 2 rfl ?_
                refine jv_ishr (w := w >>> ((nI r) &&& 31)) X dX2_core_67 rfl ?_
                refine jv_iconst (v := nI 1) X dX2_core_68 rfl ?_
                refine jv_iand (w := (w >>> ((nI r) &&& 31)) &&& (nI 1)) X dX2_core_69 rfl ?_
                refine jv_iconst (v := nI 1) X dX2_core_70 rfl ?_
                refine jv_icmp_ne 97 X dX2_core_71 (by decide) (fun c71 => ?_) (fun c71 => ?_)
                · skip
                  refine jv_iinc (v := nI (r + 1)) (lv' := [(2, .int (nI (r + 1))), (0, .ref o.2.1), (1, .int w)]) X dX2_core_97 2 rfl (nI_1 _) (by decide) rfl ?_
                  refine jv_goto 55 X dX2_core_100 (by decide) ?_
                  refine jv_lv (lv' := [(0, .ref o.2.1), (1, .int w), (2, .int (nI (r + 1)))]) [1, 2, 0] rfl ?_
                  exact ih_55 (r + 1) w F2 A2 (by omega) hS2_ hK2_ (by rw [← hf, corN_s (show 0 < S 1 - r by omega), show S 1 - r - 1 = S 1 - (r + 1) by omega, if_neg c71]) (by omega)
                · skip
                  refine jv_aload_n X dX2_core_74 0 rfl ?_
                  refine jv_iload_n X dX2_core_75 1 rfl ?_
                  refine jv_iconst (v := nI 1) X dX2_core_76 rfl ?_
                  refine jv_iload_n X dX2_core_77 2 rfl ?_
                  refine jv_ishl (w := nI (2 ^ r)) X dX2_core_78 (ni_shl1 (by omega)) ?_
                  refine jv_iconst (v := (-1)) X dX2_core_79 rfl ?_
                  refine jv_ixor (w := unv (2 ^ r)) X dX2_core_80 rfl ?_
                  refine jv_iand (w := w &&& (unv (2 ^ r))) X dX2_core_81 rfl ?_
                  refine jv_iconst (v := nI 1) X dX2_core_82 rfl ?_
                  refine jv_calli (jv_runV (As := [.int (w &&& (unv (2 ^ r))), .int (nI 1)]) (rest := []) X dX2_core_83 (c_X2_solutionsBy hO hS2_ hWs hL (w &&& (unv (2 ^ r))) 1 (by decide)) (lw_V q2323 q2325 qs69 q100 q2326) hd_X2_solutionsBy md_M_o rfl (Nat.le_of_ble_eq_true rfl) (Nat.le_of_ble_eq_true rfl) (Nat.le_of_ble_eq_true rfl) (Nat.le_of_ble_eq_true rfl) rfl (Nat.le_of_ble_eq_true rfl)) (fun r4 M_ h_ => ?_)
                  obtain ⟨F4, A4, rfl, h4⟩ := h_
                  obtain ⟨rfl, hY4, hK4⟩ := h4
                  have hS4 := hK4.S hS2_
                  have hn4 := sol_n hW (S := S) (m := (w &&& (unv (2 ^ r)))) (most := 1)
                  refine jn_if_ne 97 X dX2_core_86 (by decide) (by omega) (fun c86 => ?_) (fun c86 => ?_)
                  · skip
                    refine jv_iinc (v := nI (r + 1)) (lv' := [(2, .int (nI (r + 1))), (0, .ref o.2.1), (1, .int w)]) X dX2_core_97 2 rfl (nI_1 _) (by decide) rfl ?_
                    refine jv_goto 55 X dX2_core_100 (by decide) ?_
                    refine jv_lv (lv' := [(0, .ref o.2.1), (1, .int w), (2, .int (nI (r + 1)))]) [1, 2, 0] rfl ?_
                    exact ih_55 (r + 1) w F4 A4 (by omega) hS4 (hK2_.tr hK4) (by rw [← hf, corN_s (show 0 < S 1 - r by omega), show S 1 - r - 1 = S 1 - (r + 1) by omega, if_pos c71, if_neg c86]) (by omega)
                  · skip
                    refine jv_iload_n X dX2_core_89 1 rfl ?_
                    refine jv_iconst (v := nI 1) X dX2_core_90 rfl ?_
                    refine jv_iload_n X dX2_core_91 2 rfl ?_
                    refine jv_ishl (w := nI (2 ^ r)) X dX2_core_92 (ni_shl1 (by omega)) ?_
                    refine jv_iconst (v := (-1)) X dX2_core_93 rfl ?_
                    refine jv_ixor (w := unv (2 ^ r)) X dX2_core_94 rfl ?_
                    refine jv_iand (w := w &&& (unv (2 ^ r))) X dX2_core_95 rfl ?_
                    refine jv_istore_n (lv' := [(1, .int (w &&& (unv (2 ^ r)))), (0, .ref o.2.1), (2, .int (nI r))]) X dX2_core_96 rfl (by decide) rfl ?_
                    refine jv_iinc (v := nI (r + 1)) (lv' := [(2, .int (nI (r + 1))), (1, .int (w &&& (unv (2 ^ r)))), (0, .ref o.2.1)]) X dX2_core_97 2 rfl (nI_1 _) (by decide) rfl ?_
                    refine jv_goto 55 X dX2_core_100 (by decide) ?_
                    refine jv_lv (lv' := [(0, .ref o.2.1), (1, .int (w &&& (unv (2 ^ r)))), (2, .int (nI (r + 1)))]) [2, 1, 0] rfl ?_
                    exact ih_55 (r + 1) (w &&& (unv (2 ^ r))) F4 A4 (by omega) hS4 (hK2_.tr hK4) (by rw [← hf, corN_s (show 0 < S 1 - r by omega), show S 1 - r - 1 = S 1 - (r + 1) by omega, if_pos c71, if_pos c86]) (by omega)
          refine jv_lv (lv' := [(0, .ref o.2.1), (1, .int (nI u)), (2, .int (nI 0))]) [1, 2, 0] rfl ?_
          exact lp55_3 (S 1 + 1) 0 (nI u) F1 A1 (Nat.zero_le _) hS1 hK1 (by rw [hu1]; rfl) (by omega)
        · skip
          have hk0 := hW.rk (r := q) (by omega)
          refine jv_iload_n X dX2_core_27 1 rfl ?_
          refine jv_aload_n X dX2_core_28 0 rfl ?_
          refine jv_iload_n X dX2_core_29 2 rfl ?_
          refine jv_iconst (v := nI 0) X dX2_core_30 rfl ?_
          refine jv_ask (jv_runV (As := [.int (nI q), .int (nI 0)]) (rest := [.int (nI u)]) X dX2_core_31 (c_X2_ofRule hO hS1 q 0 (by omega) (by omega)) (lw_V q2142 q2144 qs46 q100 q2145) hd_X2_ofRule md_M_o rfl (Nat.le_of_ble_eq_true rfl) (Nat.le_of_ble_eq_true rfl) (Nat.le_of_ble_eq_true rfl) (Nat.le_of_ble_eq_true rfl) rfl (Nat.le_of_ble_eq_true rfl)) ?_
          refine jv_iconst (v := nI 3) X dX2_core_34 rfl ?_
          have j45_5 : ∀ wx : Nat, wx = (if (v_ofRule S q 0) = 3 then 0 else (2 ^ q)) → jv_J x G 3 Q_ (md_M G o F1 A1) 0 0 45 [(0, .ref o.2.1), (1, .int (nI u)), (2, .int (nI q))] [.int (nI wx), .int (nI u)] := by
            intro wx e_wx
            refine jv_ior (w := nI (u ||| wx)) X dX2_core_45 (ni_or _ _) ?_
            refine jv_istore_n (lv' := [(1, .int (nI (u ||| wx))), (0, .ref o.2.1), (2, .int (nI q))]) X dX2_core_46 rfl (by decide) rfl ?_
            refine jv_iinc (v := nI (q + 1)) (lv' := [(2, .int (nI (q + 1))), (1, .int (nI (u ||| wx))), (0, .ref o.2.1)]) X dX2_core_47 2 rfl (nI_1 _) (by decide) rfl ?_
            refine jv_goto 17 X dX2_core_50 (by decide) ?_
            refine jv_lv (lv' := [(0, .ref o.2.1), (1, .int (nI (u ||| wx))), (2, .int (nI (q + 1)))]) [2, 1, 0] rfl ?_
            exact ih_17 (q + 1) (u ||| wx) (by omega) (by rw [cosN, ← hu, e_wx]) (by omega)
          refine jn_icmp_ne 42 X dX2_core_35 (by decide) (by omega) (by decide) (fun c35 => ?_) (fun c35 => ?_)
          · skip
            refine jv_iconst (v := nI 1) X dX2_core_42 rfl ?_
            refine jv_iload_n X dX2_core_43 2 rfl ?_
            refine jv_ishl (w := nI (2 ^ q)) X dX2_core_44 (ni_shl1 (by omega)) ?_
            exact j45_5 _ (if_neg c35).symm
          · skip
            refine jv_iconst (v := nI 0) X dX2_core_38 rfl ?_
            refine jv_goto 45 X dX2_core_39 (by decide) ?_
            exact j45_5 _ (if_pos c35).symm
    refine jv_lv (lv' := [(0, .ref o.2.1), (1, .int (nI 0)), (2, .int (nI 0))]) [2, 1, 0] rfl ?_
    exact lp17_2 (S 1 + 1) 0 0 (Nat.zero_le _) rfl (by omega)
  · skip
    refine jv_bipush (v := (-3)) X dX2_core_10 rfl ?_
    exact jv_iret (v := (-3)) X dX2_core_12 rfl hQ (Nat.le_of_ble_eq_true rfl) (Nat.le_of_ble_eq_true rfl) ⟨_, _, rfl, ⟨(if_neg (Nat.pos_iff_ne_zero.mp c7)).symm, hK1⟩⟩
theorem hd_X2_hinders : jv_dd yX2_hinders 1 := by unfold jv_dd; decide +kernel
set_option maxHeartbeats 4000000 in
theorem c_X2_hindersN {l : Launch} {G : jv_G} {o : md_O} {F : Nat → Int32} {A : Nat → Nat → Int32} {S : Nat → Nat} (hO : md_K G o) (hS : ∀ j, j < 237 → A 0 j = nI (S j)) (hWs : wfS S) (hL : wfL S) (told : Int32) (hneg : told < 0) : jv_Ct G l yX2_hinders cX2_hinders 5 (some .int) 4 0 0 87 [.ref o.2.1, .int told] (md_M G o F A) (jv_qi G (fun r M' => ∃ F' A', M' = md_M G o F' A' ∧ r = (-2) ∧ ktY 0 F A F' A')) := by
  refine jv_Ct.of (lv := [(0, .ref o.2.1), (1, .int told)]) (by decide) (Nat.le_of_ble_eq_true rfl) rfl ?_
  intro x Q_ hl_ hQ X
  subst hl_
  have hW := hWs.1
  have hS0 := hW.p
  have hrr := hW.r
  have h2_ := hW.a
  refine jv_iload_n X dX2_hinders_0 1 rfl ?_
  refine jv_istore_n (lv' := [(2, .int told), (0, .ref o.2.1), (1, .int told)]) X dX2_hinders_1 rfl (by decide) rfl ?_
  refine jv_iload_n X dX2_hinders_2 2 rfl ?_
  refine jv_if_lt 10 X dX2_hinders_3 (by decide) (fun c3 => ?_) (fun c3 => ?_)
  · skip
    refine jv_iconst (v := nI 0) X dX2_hinders_10 rfl ?_
    refine jv_istore_n (lv' := [(3, .int (nI 0)), (2, .int told), (0, .ref o.2.1), (1, .int told)]) X dX2_hinders_11 rfl (by decide) rfl ?_
    refine jv_iconst (v := nI 0) X dX2_hinders_12 rfl ?_
    refine jv_istore (lv' := [(4, .int (nI 0)), (3, .int (nI 0)), (2, .int told), (0, .ref o.2.1), (1, .int told)]) X dX2_hinders_13 (by decide) rfl ?_
    have lp15_1 : ∀ (d_15 : Nat) (p : Nat) (w : Int32) (b : Bool) (A1 : Nat → Nat → Int32), p ≤ S 0 → b = false → (∀ i, i ≠ 18 → A1 i = A i) → S 0 - p < d_15 → jv_J x G 5 Q_ (md_M G o F A1) 0 0 15 [(0, .ref o.2.1), (1, .int told), (2, .int w), (3, .int (bI b)), (4, .int (nI p))] [] := by
      intro d_15
      induction d_15 with
      | zero => intro p w b A1 hp hb hB hm_15; exact absurd hm_15 (Nat.not_lt_zero _)
      | succ d_15 ih_15 =>
        intro p w b A1 hp hb hB hm_15
        have hS1 : ∀ j, j < 237 → A1 0 j = nI (S j) := fun j hj => by rw [hB 0 (by decide)]; exact hS j hj
        refine jv_iload X dX2_hinders_15 4 rfl ?_
        refine jv_aload_n X dX2_hinders_17 0 rfl ?_
        refine jm_getA X dX2_hinders_18 0 (by decide) q2010 rfl ?_
        refine jv_iconst (v := nI 0) X dX2_hinders_21 rfl ?_
        refine jm_ld (v := nI (S 0)) X hO dX2_hinders_22 0 (by decide) (show 0 < 237 from (by omega)) (hS1 _ (by omega)) ?_
        refine jn_icmp_ge 74 X dX2_hinders_23 (by decide) (by omega) (by omega) (fun c23 => ?_) (fun c23 => ?_)
        · skip
          refine jv_iload_n X dX2_hinders_74 3 rfl ?_
          refine jb_if_eq 82 X dX2_hinders_75 (by decide) (fun c75 => ?_) (fun c75 => ?_)
          · skip
            refine jv_bipush (v := (-2)) X dX2_hinders_82 rfl ?_
            exact jv_iret (v := (-2)) X dX2_hinders_84 rfl hQ (Nat.le_of_ble_eq_true rfl) (Nat.le_of_ble_eq_true rfl) ⟨_, _, rfl, ⟨rfl, ⟨fun _ _ => rfl, fun k a _ _ => hB k a, fun q hq => absurd hq (Nat.not_lt_zero _)⟩⟩⟩
          · skip
            exact (absurd (hb.symm.trans c75) (by decide))
        · skip
          refine jv_aload_n X dX2_hinders_26 0 rfl ?_
          refine jm_getA X dX2_hinders_27 18 (by decide) q2028 rfl ?_
          refine jv_iload X dX2_hinders_30 4 rfl ?_
          refine jv_iload_n X dX2_hinders_32 2 rfl ?_
          refine jv_bipush (v := nI 10) X dX2_hinders_33 rfl ?_
          refine jv_irem (w := w - w / (nI 10) * (nI 10)) X dX2_hinders_35 (ni_nz (by decide) (by decide)) rfl ?_
          refine jm_st (v := w - w / (nI 10) * (nI 10)) X hO dX2_hinders_36 18 (by decide) (show p < 6 from (by omega)) ?_
          have hS2 : ∀ j, j < 237 → (mdA A1 18 p (w - w / (nI 10) * (nI 10))) 0 j = nI (S j) := fun j hj => (mdA_n (by decide)).trans (hS1 j hj)
          refine jv_iload_n X dX2_hinders_37 3 rfl ?_
          have j62_2 : ∀ wb : Bool, wb = (if b = true then (if (v_isState S (nI p) (w - w / (nI 10) * (nI 10))) = true then true else false) else false) → jv_J x G 5 Q_ (md_M G o F (mdA A1 18 p (w - w / (nI 10) * (nI 10)))) 0 0 62 [(0, .ref o.2.1), (1, .int told), (2, .int w), (3, .int (bI b)), (4, .int (nI p))] [.int (bI wb)] := by
            intro wb e_wb
            refine jv_istore_n (lv' := [(3, .int (bI wb)), (0, .ref o.2.1), (1, .int told), (2, .int w), (4, .int (nI p))]) X dX2_hinders_62 rfl (by decide) rfl ?_
            refine jv_iload_n X dX2_hinders_63 3 rfl ?_
            refine jv_bipush (v := nI 10) X dX2_hinders_64 rfl ?_
            refine jv_idiv (w := w / (nI 10)) X dX2_hinders_66 (ni_nz (by decide) (by decide)) rfl ?_
            refine jv_istore_n (lv' := [(2, .int (w / (nI 10))), (3, .int (bI wb)), (0, .ref o.2.1), (1, .int told), (4, .int (nI p))]) X dX2_hinders_67 rfl (by decide) rfl ?_
            refine jv_iinc (v := nI (p + 1)) (lv' := [(4, .int (nI (p + 1))), (2, .int (w / (nI 10))), (3, .int (bI wb)), (0, .ref o.2.1), (1, .int told)]) X dX2_hinders_68 4 rfl (nI_1 _) (by decide) rfl ?_
            refine jv_goto 15 X dX2_hinders_71 (by decide) ?_
            refine jv_lv (lv' := [(0, .ref o.2.1), (1, .int told), (2, .int (w / (nI 10))), (3, .int (bI wb)), (4, .int (nI (p + 1)))]) [3, 4, 1, 2, 0] rfl ?_
            exact ih_15 (p + 1) (w / (nI 10)) wb (mdA A1 18 p (w - w / (nI 10) * (nI 10))) (by omega) (by rw [e_wb, hb]; rfl) (fun i hi => by rw [mdA_i hi]; exact hB i hi) (by omega)
          refine jb_if_eq 61 X dX2_hinders_38 (by decide) (fun c38 => ?_) (fun c38 => ?_)
          · skip
            refine jv_iconst (v := nI 0) X dX2_hinders_61 rfl ?_
            exact j62_2 _ (if_neg (Bool.eq_false_iff.mp c38)).symm
          · skip
            refine jv_aload_n X dX2_hinders_41 0 rfl ?_
            refine jv_iload X dX2_hinders_42 4 rfl ?_
            refine jv_aload_n X dX2_hinders_44 0 rfl ?_
            refine jm_getA X dX2_hinders_45 18 (by decide) q2028 rfl ?_
            refine jv_iload X dX2_hinders_48 4 rfl ?_
            refine jm_ld (v := w - w / (nI 10) * (nI 10)) X hO dX2_hinders_50 18 (by decide) (show p < 6 from (by omega)) mdA_s ?_
            refine jv_ask (jv_runV (As := [.int (nI p), .int (w - w / (nI 10) * (nI 10))]) (rest := []) X dX2_hinders_51 (c_X2_isState hO hS2 (nI p) (w - w / (nI 10) * (nI 10)) hW) (lw_V q2269 q2271 qs65 q100 q2272) hd_X2_isState md_M_o rfl (Nat.le_of_ble_eq_true rfl) (Nat.le_of_ble_eq_true rfl) (Nat.le_of_ble_eq_true rfl) (Nat.le_of_ble_eq_true rfl) rfl (Nat.le_of_ble_eq_true rfl)) ?_
            refine jb_if_eq 61 X dX2_hinders_54 (by decide) (fun c54 => ?_) (fun c54 => ?_)
            · skip
              refine jv_iconst (v := nI 0) X dX2_hinders_61 rfl ?_
              exact j62_2 _ ((if_pos c38).trans (if_neg (Bool.eq_false_iff.mp c54))).symm
            · skip
              refine jv_iconst (v := nI 1) X dX2_hinders_57 rfl ?_
              refine jv_goto 62 X dX2_hinders_58 (by decide) ?_
              exact j62_2 _ ((if_pos c38).trans (if_pos c54)).symm
    refine jv_lv (lv' := [(0, .ref o.2.1), (1, .int told), (2, .int told), (3, .int (nI 0)), (4, .int (nI 0))]) [3, 4, 2, 1, 0] rfl ?_
    exact lp15_1 (S 0 + 1) 0 told false A (Nat.zero_le _) rfl (fun _ _ => rfl) (by omega)
  · skip
    exact (absurd hneg c3)
set_option maxHeartbeats 4000000 in
theorem c_X2_hindersP {l : Launch} {G : jv_G} {o : md_O} {F : Nat → Int32} {A : Nat → Nat → Int32} {S : Nat → Nat} (hO : md_K G o) (hS : ∀ j, j < 237 → A 0 j = nI (S j)) (hWs : wfS S) (hL : wfL S) (t : Nat) (ht : t < 2 ^ 31) : jv_Ct G l yX2_hinders cX2_hinders 5 (some .int) 4 0 0 97 [.ref o.2.1, .int (nI t)] (md_M G o F A) (jv_qi G (fun r M' => ∃ F' A', M' = md_M G o F' A' ∧ r = hinT S t ∧ ktY 0 F A F' A')) := by
  refine jv_Ct.of (lv := [(0, .ref o.2.1), (1, .int (nI t))]) (by decide) (Nat.le_of_ble_eq_true rfl) rfl ?_
  intro x Q_ hl_ hQ X
  subst hl_
  have hW := hWs.1
  have hS0 := hW.p
  have hrr := hW.r
  have h2_ := hW.a
  refine jv_iload_n X dX2_hinders_0 1 rfl ?_
  refine jv_istore_n (lv' := [(2, .int (nI t)), (0, .ref o.2.1), (1, .int (nI t))]) X dX2_hinders_1 rfl (by decide) rfl ?_
  refine jv_iload_n X dX2_hinders_2 2 rfl ?_
  refine jn_if_lt X dX2_hinders_3 10 (by decide) (by omega) ?_
  refine jv_iconst (v := nI 1) X dX2_hinders_6 rfl ?_
  refine jv_goto 11 X dX2_hinders_7 (by decide) ?_
  refine jv_istore_n (lv' := [(3, .int (nI 1)), (2, .int (nI t)), (0, .ref o.2.1), (1, .int (nI t))]) X dX2_hinders_11 rfl (by decide) rfl ?_
  refine jv_to (lv' := [(3, .int (nI 1)), (2, .int (nI (t / 10 ^ 0))), (0, .ref o.2.1), (1, .int (nI t))]) (st' := []) (by rw [Nat.pow_zero, Nat.div_one]) rfl ?_
  refine jv_iconst (v := nI 0) X dX2_hinders_12 rfl ?_
  refine jv_istore (lv' := [(4, .int (nI 0)), (3, .int (nI 1)), (2, .int (nI (t / 10 ^ 0))), (0, .ref o.2.1), (1, .int (nI t))]) X dX2_hinders_13 (by decide) rfl ?_
  have lp15_1 : ∀ (d_15 : Nat) (p : Nat) (b : Bool) (A1 : Nat → Nat → Int32), p ≤ S 0 → b = gooN S t p → (∀ i, i ≠ 18 → A1 i = A i) → (∀ q, q < p → A1 18 q = nI (tol t q)) → S 0 - p < d_15 → jv_J x G 5 Q_ (md_M G o F A1) 0 0 15 [(0, .ref o.2.1), (1, .int (nI t)), (2, .int (nI (t / 10 ^ p))), (3, .int (bI b)), (4, .int (nI p))] [] := by
    intro d_15
    induction d_15 with
    | zero => intro p b A1 hp hb hB hC hm_15; exact absurd hm_15 (Nat.not_lt_zero _)
    | succ d_15 ih_15 =>
      intro p b A1 hp hb hB hC hm_15
      have hS1 : ∀ j, j < 237 → A1 0 j = nI (S j) := fun j hj => by rw [hB 0 (by decide)]; exact hS j hj
      have htp : t / 10 ^ p < 2 ^ 31 := Nat.lt_of_le_of_lt (Nat.div_le_self _ _) ht
      refine jv_iload X dX2_hinders_15 4 rfl ?_
      refine jv_aload_n X dX2_hinders_17 0 rfl ?_
      refine jm_getA X dX2_hinders_18 0 (by decide) q2010 rfl ?_
      refine jv_iconst (v := nI 0) X dX2_hinders_21 rfl ?_
      refine jm_ld (v := nI (S 0)) X hO dX2_hinders_22 0 (by decide) (show 0 < 237 from (by omega)) (hS1 _ (by omega)) ?_
      refine jn_icmp_ge 74 X dX2_hinders_23 (by decide) (by omega) (by omega) (fun c23 => ?_) (fun c23 => ?_)
      · skip
        refine jv_iload_n X dX2_hinders_74 3 rfl ?_
        refine jb_if_eq 82 X dX2_hinders_75 (by decide) (fun c75 => ?_) (fun c75 => ?_)
        · skip
          refine jv_bipush (v := (-2)) X dX2_hinders_82 rfl ?_
          exact jv_iret (v := (-2)) X dX2_hinders_84 rfl hQ (Nat.le_of_ble_eq_true rfl) (Nat.le_of_ble_eq_true rfl) ⟨_, _, rfl, ⟨by rw [hinT, ← (show p = S 0 by omega), ← hb, if_neg (Bool.eq_false_iff.mp c75)], ⟨fun _ _ => rfl, fun k a _ _ => hB k a, fun q hq => absurd hq (Nat.not_lt_zero _)⟩⟩⟩
        · skip
          refine jv_iload_n X dX2_hinders_78 2 rfl ?_
          refine jn_if_eq 85 X dX2_hinders_79 (by decide) (by omega) (fun c79 => ?_) (fun c79 => ?_)
          · skip
            have hgo : gooN S t (S 0) = true := by rw [← (show p = S 0 by omega), ← hb]; exact c75
            have hre : t / 10 ^ S 0 = 0 := by rw [← (show p = S 0 by omega)]; exact c79
            have hCn : ∀ q, q < S 0 → A1 18 q = nI (tol t q) := fun q hq => hC q (by omega)
            have hcl : ∀ q, tol t q ≤ 9 := fun q => Nat.le_of_lt_succ (Nat.mod_lt _ (by decide))
            refine jv_iconst (v := nI 0) X dX2_hinders_85 rfl ?_
            refine jv_istore (lv' := [(4, .int (nI 0)), (0, .ref o.2.1), (1, .int (nI t)), (2, .int (nI (t / 10 ^ p))), (3, .int (bI b))]) X dX2_hinders_86 (by decide) rfl ?_
            have lp88_2 : ∀ (d_88 : Nat) (r : Nat), r ≤ S 1 → hirN S (tol t) (S 1 - r) r = hirN S (tol t) (S 1) 0 → S 1 - r < d_88 → jv_J x G 5 Q_ (md_M G o F A1) 0 0 88 [(0, .ref o.2.1), (1, .int (nI t)), (2, .int (nI (t / 10 ^ p))), (3, .int (bI b)), (4, .int (nI r))] [] := by
              intro d_88
              induction d_88 with
              | zero => intro r hr hf hm_88; exact absurd hm_88 (Nat.not_lt_zero _)
              | succ d_88 ih_88 =>
                intro r hr hf hm_88
                refine jv_iload X dX2_hinders_88 4 rfl ?_
                refine jv_aload_n X dX2_hinders_90 0 rfl ?_
                refine jm_getA X dX2_hinders_91 0 (by decide) q2010 rfl ?_
                refine jv_iconst (v := nI 1) X dX2_hinders_94 rfl ?_
                refine jm_ld (v := nI (S 1)) X hO dX2_hinders_95 0 (by decide) (show 1 < 237 from (by omega)) (hS1 _ (by omega)) ?_
                refine jn_icmp_ge 117 X dX2_hinders_96 (by decide) (by omega) (by omega) (fun c96 => ?_) (fun c96 => ?_)
                · skip
                  refine jv_iconst (v := nI 0) X dX2_hinders_117 rfl ?_
                  refine jv_istore (lv' := [(4, .int (nI 0)), (0, .ref o.2.1), (1, .int (nI t)), (2, .int (nI (t / 10 ^ p))), (3, .int (bI b))]) X dX2_hinders_118 (by decide) rfl ?_
                  have lp120_3 : ∀ (d_120 : Nat) (a : Nat), a ≤ S 2 → hiaN S (tol t) (S 2 - a) a = hiaN S (tol t) (S 2) 0 → S 2 - a < d_120 → jv_J x G 5 Q_ (md_M G o F A1) 0 0 120 [(0, .ref o.2.1), (1, .int (nI t)), (2, .int (nI (t / 10 ^ p))), (3, .int (bI b)), (4, .int (nI a))] [] := by
                    intro d_120
                    induction d_120 with
                    | zero => intro a ha hg hm_120; exact absurd hm_120 (Nat.not_lt_zero _)
                    | succ d_120 ih_120 =>
                      intro a ha hg hm_120
                      refine jv_iload X dX2_hinders_120 4 rfl ?_
                      refine jv_aload_n X dX2_hinders_122 0 rfl ?_
                      refine jm_getA X dX2_hinders_123 0 (by decide) q2010 rfl ?_
                      refine jv_iconst (v := nI 2) X dX2_hinders_126 rfl ?_
                      refine jm_ld (v := nI (S 2)) X hO dX2_hinders_127 0 (by decide) (show 2 < 237 from (by omega)) (hS1 _ (by omega)) ?_
                      refine jn_icmp_ge 179 X dX2_hinders_128 (by decide) (by omega) (by omega) (fun c128 => ?_) (fun c128 => ?_)
                      · skip
                        refine jv_aload_n X dX2_hinders_179 0 rfl ?_
                        refine jv_ldc (v := nI 1073741823) X dX2_hinders_180 q2321 ?_
                        refine jv_ask (jv_runV (As := [.int (nI 1073741823)]) (rest := []) X dX2_hinders_182 (c_X2_unreached hO hS1 hCn (fun q _ => hcl q) (nI 1073741823) hWs (Nat.le_refl _)) (lw_V q2331 q2333 qs71 q100 q2334) hd_X2_unreached md_M_o rfl (Nat.le_of_ble_eq_true rfl) (Nat.le_of_ble_eq_true rfl) (Nat.le_of_ble_eq_true rfl) (Nat.le_of_ble_eq_true rfl) rfl (Nat.le_of_ble_eq_true rfl)) ?_
                        refine jv_istore (lv' := [(4, .int (unr S (tol t) (nI 1073741823))), (0, .ref o.2.1), (1, .int (nI t)), (2, .int (nI (t / 10 ^ p))), (3, .int (bI b))]) X dX2_hinders_185 (by decide) rfl ?_
                        refine jv_iload X dX2_hinders_187 0 rfl ?_
                        refine jv_iconst (v := (-1)) X dX2_hinders_189 rfl ?_
                        refine jv_icmp_ne 198 X dX2_hinders_190 (by decide) (fun c190 => ?_) (fun c190 => ?_)
                        · skip
                          refine jv_sipush (v := nI 200) X dX2_hinders_198 rfl ?_
                          refine jv_iload X dX2_hinders_201 0 rfl ?_
                          refine jv_iadd (w := (nI 200) + (unr S (tol t) (nI 1073741823))) X dX2_hinders_203 rfl ?_
                          exact jv_iret (v := (nI 200) + (unr S (tol t) (nI 1073741823))) X dX2_hinders_204 rfl hQ (Nat.le_of_ble_eq_true rfl) (Nat.le_of_ble_eq_true rfl) ⟨_, _, rfl, ⟨by rw [hinT, if_pos hgo, if_pos hre, ← hf, show S 1 - r = 0 by omega, hirN, ← hg, show S 2 - a = 0 by omega, hiaN, if_neg c190], ⟨fun _ _ => rfl, fun k a _ _ => hB k a, fun q hq => absurd hq (Nat.not_lt_zero _)⟩⟩⟩
                        · skip
                          refine jv_bipush (v := (-5)) X dX2_hinders_193 rfl ?_
                          refine jv_goto 204 X dX2_hinders_195 (by decide) ?_
                          exact jv_iret (v := (-5)) X dX2_hinders_204 rfl hQ (Nat.le_of_ble_eq_true rfl) (Nat.le_of_ble_eq_true rfl) ⟨_, _, rfl, ⟨by rw [hinT, if_pos hgo, if_pos hre, ← hf, show S 1 - r = 0 by omega, hirN, ← hg, show S 2 - a = 0 by omega, hiaN, if_pos c190], ⟨fun _ _ => rfl, fun k a _ _ => hB k a, fun q hq => absurd hq (Nat.not_lt_zero _)⟩⟩⟩
                      · skip
                        have ha0 := hWs.2.2.1 a (by omega)
                        have ha1 := hW.a1 (a := a) (by omega)
                        have hct := hcl (v_asm S a 0)
                        refine jv_aload_n X dX2_hinders_131 0 rfl ?_
                        refine jm_getA X dX2_hinders_132 18 (by decide) q2028 rfl ?_
                        refine jv_aload_n X dX2_hinders_135 0 rfl ?_
                        refine jm_getA X dX2_hinders_136 0 (by decide) q2010 rfl ?_
                        refine jv_sipush (v := nI 225) X dX2_hinders_139 rfl ?_
                        refine jv_iconst (v := nI 2) X dX2_hinders_142 rfl ?_
                        refine jv_iload X dX2_hinders_143 4 rfl ?_
                        refine jv_imul (w := nI (2 * a)) X dX2_hinders_145 (pk_mul _ _) ?_
                        refine jv_iadd (w := nI (225 + (2 * a))) X dX2_hinders_146 (nI_add _ _) ?_
                        refine jm_ld (v := nI (v_asm S a 0)) X hO dX2_hinders_147 0 (by decide) (show (225 + (2 * a)) < 237 from (by omega)) (hS1 _ (by omega)) ?_
                        refine jm_ld (v := nI (tol t (v_asm S a 0))) X hO dX2_hinders_148 18 (by decide) (show (v_asm S a 0) < 6 from (by omega)) (hCn _ (by omega)) ?_
                        refine jv_aload_n X dX2_hinders_149 0 rfl ?_
                        refine jm_getA X dX2_hinders_150 0 (by decide) q2010 rfl ?_
                        refine jv_sipush (v := nI 225) X dX2_hinders_153 rfl ?_
                        refine jv_iconst (v := nI 2) X dX2_hinders_156 rfl ?_
                        refine jv_iload X dX2_hinders_157 4 rfl ?_
                        refine jv_imul (w := nI (2 * a)) X dX2_hinders_159 (pk_mul _ _) ?_
                        refine jv_iadd (w := nI (225 + (2 * a))) X dX2_hinders_160 (nI_add _ _) ?_
                        refine jv_iconst (v := nI 1) X dX2_hinders_161 rfl ?_
                        refine jv_iadd (w := nI ((225 + (2 * a)) + 1)) X dX2_hinders_162 (nI_add _ _) ?_
                        refine jm_ld (v := nI (v_asm S a 1)) X hO dX2_hinders_163 0 (by decide) (show ((225 + (2 * a)) + 1) < 237 from (by omega)) (hS1 _ (by omega)) ?_
                        refine jn_icmp_eq 173 X dX2_hinders_164 (by decide) (by omega) (by omega) (fun c164 => ?_) (fun c164 => ?_)
                        · skip
                          refine jv_iinc (v := nI (a + 1)) (lv' := [(4, .int (nI (a + 1))), (0, .ref o.2.1), (1, .int (nI t)), (2, .int (nI (t / 10 ^ p))), (3, .int (bI b))]) X dX2_hinders_173 4 rfl (nI_1 _) (by decide) rfl ?_
                          refine jv_goto 120 X dX2_hinders_176 (by decide) ?_
                          refine jv_lv (lv' := [(0, .ref o.2.1), (1, .int (nI t)), (2, .int (nI (t / 10 ^ p))), (3, .int (bI b)), (4, .int (nI (a + 1)))]) [1, 2, 3, 4, 0] rfl ?_
                          exact ih_120 (a + 1) (by omega) (by rw [← hg, hiaN_s (show 0 < S 2 - a by omega), if_pos c164, show S 2 - a - 1 = S 2 - (a + 1) by omega]) (by omega)
                        · skip
                          refine jv_bipush (v := nI 100) X dX2_hinders_167 rfl ?_
                          refine jv_iload X dX2_hinders_169 4 rfl ?_
                          refine jv_iadd (w := nI (100 + a)) X dX2_hinders_171 (nI_add _ _) ?_
                          exact jv_iret (v := nI (100 + a)) X dX2_hinders_172 rfl hQ (Nat.le_of_ble_eq_true rfl) (Nat.le_of_ble_eq_true rfl) ⟨_, _, rfl, ⟨by rw [hinT, if_pos hgo, if_pos hre, ← hf, show S 1 - r = 0 by omega, hirN, ← hg, hiaN_s (show 0 < S 2 - a by omega), if_neg c164], ⟨fun _ _ => rfl, fun k a _ _ => hB k a, fun q hq => absurd hq (Nat.not_lt_zero _)⟩⟩⟩
                  refine jv_lv (lv' := [(0, .ref o.2.1), (1, .int (nI t)), (2, .int (nI (t / 10 ^ p))), (3, .int (bI b)), (4, .int (nI 0))]) [1, 2, 3, 4, 0] rfl ?_
                  exact lp120_3 (S 2 + 1) 0 (Nat.zero_le _) rfl (by omega)
                · skip
                  refine jv_aload_n X dX2_hinders_99 0 rfl ?_
                  refine jv_iload X dX2_hinders_100 4 rfl ?_
                  refine jv_ask (jv_runV (As := [.int (nI r)]) (rest := []) X dX2_hinders_102 (c_X2_holds hO hS1 hCn (fun q _ => hcl q) r (by omega) hWs (fun _ q hq _ => hq) (fun z => ⟨(hWs.2.1 r (by omega)).1, rgp_lt hWs (by omega)⟩)) (lw_V q2351 q2353 qs76 q100 q2354) hd_X2_holds md_M_o rfl (Nat.le_of_ble_eq_true rfl) (Nat.le_of_ble_eq_true rfl) (Nat.le_of_ble_eq_true rfl) (Nat.le_of_ble_eq_true rfl) rfl (Nat.le_of_ble_eq_true rfl)) ?_
                  refine jb_if_ne 111 X dX2_hinders_105 (by decide) (fun c105 => ?_) (fun c105 => ?_)
                  · skip
                    refine jv_iinc (v := nI (r + 1)) (lv' := [(4, .int (nI (r + 1))), (0, .ref o.2.1), (1, .int (nI t)), (2, .int (nI (t / 10 ^ p))), (3, .int (bI b))]) X dX2_hinders_111 4 rfl (nI_1 _) (by decide) rfl ?_
                    refine jv_goto 88 X dX2_hinders_114 (by decide) ?_
                    refine jv_lv (lv' := [(0, .ref o.2.1), (1, .int (nI t)), (2, .int (nI (t / 10 ^ p))), (3, .int (bI b)), (4, .int (nI (r + 1)))]) [1, 2, 3, 4, 0] rfl ?_
                    exact ih_88 (r + 1) (by omega) (by rw [← hf, hirN_s (show 0 < S 1 - r by omega), if_pos c105, show S 1 - r - 1 = S 1 - (r + 1) by omega]) (by omega)
                  · skip
                    refine jv_iload X dX2_hinders_108 4 rfl ?_
                    exact jv_iret (v := nI r) X dX2_hinders_110 rfl hQ (Nat.le_of_ble_eq_true rfl) (Nat.le_of_ble_eq_true rfl) ⟨_, _, rfl, ⟨by rw [hinT, if_pos hgo, if_pos hre, ← hf, hirN_s (show 0 < S 1 - r by omega), if_neg (Bool.eq_false_iff.mp c105)], ⟨fun _ _ => rfl, fun k a _ _ => hB k a, fun q hq => absurd hq (Nat.not_lt_zero _)⟩⟩⟩
            refine jv_lv (lv' := [(0, .ref o.2.1), (1, .int (nI t)), (2, .int (nI (t / 10 ^ p))), (3, .int (bI b)), (4, .int (nI 0))]) [1, 2, 3, 4, 0] rfl ?_
            exact lp88_2 (S 1 + 1) 0 (Nat.zero_le _) rfl (by omega)
          · skip
            refine jv_bipush (v := (-2)) X dX2_hinders_82 rfl ?_
            exact jv_iret (v := (-2)) X dX2_hinders_84 rfl hQ (Nat.le_of_ble_eq_true rfl) (Nat.le_of_ble_eq_true rfl) ⟨_, _, rfl, ⟨by rw [hinT, ← (show p = S 0 by omega), ← hb, if_pos c75, if_neg c79], ⟨fun _ _ => rfl, fun k a _ _ => hB k a, fun q hq => absurd hq (Nat.not_lt_zero _)⟩⟩⟩
      · skip
        refine jv_aload_n X dX2_hinders_26 0 rfl ?_
        refine jm_getA X dX2_hinders_27 18 (by decide) q2028 rfl ?_
        refine jv_iload X dX2_hinders_30 4 rfl ?_
        refine jv_iload_n X dX2_hinders_32 2 rfl ?_
        refine jv_bipush (v := nI 10) X dX2_hinders_33 rfl ?_
        refine jv_irem (w := nI ((t / 10 ^ p) % 10)) X dX2_hinders_35 (ni_nz (by decide) (by decide)) (pk_rem (by omega) (by decide) (by decide)) ?_
        refine jm_st (v := nI ((t / 10 ^ p) % 10)) X hO dX2_hinders_36 18 (by decide) (show p < 6 from (by omega)) ?_
        have hS2 : ∀ j, j < 237 → (mdA A1 18 p (nI ((t / 10 ^ p) % 10))) 0 j = nI (S j) := fun j hj => (mdA_n (by decide)).trans (hS1 j hj)
        refine jv_iload_n X dX2_hinders_37 3 rfl ?_
        have j62_4 : ∀ wb : Bool, wb = (if b = true then (if (v_isState S (nI p) (nI ((t / 10 ^ p) % 10))) = true then true else false) else false) → jv_J x G 5 Q_ (md_M G o F (mdA A1 18 p (nI ((t / 10 ^ p) % 10)))) 0 0 62 [(0, .ref o.2.1), (1, .int (nI t)), (2, .int (nI (t / 10 ^ p))), (3, .int (bI b)), (4, .int (nI p))] [.int (bI wb)] := by
          intro wb e_wb
          refine jv_istore_n (lv' := [(3, .int (bI wb)), (0, .ref o.2.1), (1, .int (nI t)), (2, .int (nI (t / 10 ^ p))), (4, .int (nI p))]) X dX2_hinders_62 rfl (by decide) rfl ?_
          refine jv_iload_n X dX2_hinders_63 3 rfl ?_
          refine jv_bipush (v := nI 10) X dX2_hinders_64 rfl ?_
          refine jv_idiv (w := nI (t / 10 ^ (p + 1))) X dX2_hinders_66 (ni_nz (by decide) (by decide)) ((pk_div htp (by decide) (by decide)).trans (by rw [Nat.div_div_eq_div_mul, ← Nat.pow_succ])) ?_
          refine jv_istore_n (lv' := [(2, .int (nI (t / 10 ^ (p + 1)))), (3, .int (bI wb)), (0, .ref o.2.1), (1, .int (nI t)), (4, .int (nI p))]) X dX2_hinders_67 rfl (by decide) rfl ?_
          refine jv_iinc (v := nI (p + 1)) (lv' := [(4, .int (nI (p + 1))), (2, .int (nI (t / 10 ^ (p + 1)))), (3, .int (bI wb)), (0, .ref o.2.1), (1, .int (nI t))]) X dX2_hinders_68 4 rfl (nI_1 _) (by decide) rfl ?_
          refine jv_goto 15 X dX2_hinders_71 (by decide) ?_
          refine jv_lv (lv' := [(0, .ref o.2.1), (1, .int (nI t)), (2, .int (nI (t / 10 ^ (p + 1)))), (3, .int (bI wb)), (4, .int (nI (p + 1)))]) [3, 4, 1, 2, 0] rfl ?_
          exact ih_15 (p + 1) wb (mdA A1 18 p (nI ((t / 10 ^ p) % 10))) (by omega) (by rw [gooN, ← hb]; exact e_wb) (fun i hi => by rw [mdA_i hi]; exact hB i hi) (fun q hq => by by_cases e : q = p; (rw [e, mdA_s]; rfl); (rw [mdA_o e]; exact hC q (by omega))) (by omega)
        refine jb_if_eq 61 X dX2_hinders_38 (by decide) (fun c38 => ?_) (fun c38 => ?_)
        · skip
          refine jv_iconst (v := nI 0) X dX2_hinders_61 rfl ?_
          exact j62_4 _ (if_neg (Bool.eq_false_iff.mp c38)).symm
        · skip
          refine jv_aload_n X dX2_hinders_41 0 rfl ?_
          refine jv_iload X dX2_hinders_42 4 rfl ?_
          refine jv_aload_n X dX2_hinders_44 0 rfl ?_
          refine jm_getA X dX2_hinders_45 18 (by decide) q2028 rfl ?_
          refine jv_iload X dX2_hinders_48 4 rfl ?_
          refine jm_ld (v := nI ((t / 10 ^ p) % 10)) X hO dX2_hinders_50 18 (by decide) (show p < 6 from (by omega)) mdA_s ?_
          refine jv_ask (jv_runV (As := [.int (nI p), .int (nI ((t / 10 ^ p) % 10))]) (rest := []) X dX2_hinders_51 (c_X2_isState hO hS2 (nI p) (nI ((t / 10 ^ p) % 10)) hW) (lw_V q2269 q2271 qs65 q100 q2272) hd_X2_isState md_M_o rfl (Nat.le_of_ble_eq_true rfl) (Nat.le_of_ble_eq_true rfl) (Nat.le_of_ble_eq_true rfl) (Nat.le_of_ble_eq_true rfl) rfl (Nat.le_of_ble_eq_true rfl)) ?_
          refine jb_if_eq 61 X dX2_hinders_54 (by decide) (fun c54 => ?_) (fun c54 => ?_)
          · skip
            refine jv_iconst (v := nI 0) X dX2_hinders_61 rfl ?_
            exact j62_4 _ ((if_pos c38).trans (if_neg (Bool.eq_false_iff.mp c54))).symm
          · skip
            refine jv_iconst (v := nI 1) X dX2_hinders_57 rfl ?_
            refine jv_goto 62 X dX2_hinders_58 (by decide) ?_
            exact j62_4 _ ((if_pos c38).trans (if_pos c54)).symm
  refine jv_lv (lv' := [(0, .ref o.2.1), (1, .int (nI t)), (2, .int (nI (t / 10 ^ 0))), (3, .int (nI 1)), (4, .int (nI 0))]) [3, 4, 2, 1, 0] rfl ?_
  exact lp15_1 (S 0 + 1) 0 true A (Nat.zero_le _) rfl (fun _ _ => rfl) (fun t ht => absurd ht (Nat.not_lt_zero _)) (by omega)
