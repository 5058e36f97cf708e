/-! reference, fifth -/
set_option maxRecDepth 100000
theorem hd_X2_remembers : jv_dd yX2_remembers 0 := by unfold jv_dd; decide +kernel
set_option maxHeartbeats 4000000 in
theorem c_X2_remembers {l : Launch} {G : jv_G} {o : md_O} {F : Nat → Int32} {A : Nat → Nat → Int32} {S : Nat → Nat} (hO : md_K G o) (hS : ∀ j, j < 237 → A 0 j = nI (S j))   : jv_Ct G l yX2_remembers cX2_remembers 2 (none) 0 0 0 0 [.ref o.2.1] (md_M G o F A) (jv_qv G (fun M' => ∃ A', M' = md_M G o F A' ∧ (∀ i, i ≠ 2 → A' i = A i) ∧ ∀ j, j < 237 → A' 2 j = nI (S j))) := by
  refine jv_Ct.of (lv := [(0, .ref o.2.1)]) (by decide) (Nat.le_of_ble_eq_true rfl) rfl ?_
  intro x Q_ hl_ hQ X
  subst hl_
  refine jv_iconst (v := nI 0) X dX2_remembers_0 rfl ?_
  refine jv_istore_n (lv' := [(1, .int (nI 0)), (0, .ref o.2.1)]) X dX2_remembers_1 rfl (by decide) rfl ?_
  have lp2_1 : ∀ (d_2 : Nat) (q : Nat) (A1 : Nat → Nat → Int32), q ≤ 237 → (∀ i, i ≠ 2 → A1 i = A i) → (∀ j, j < q → A1 2 j = nI (S j)) → 237 - q < d_2 → jv_J x G 2 Q_ (md_M G o F A1) 0 0 2 [(0, .ref o.2.1), (1, .int (nI q))] [] := by
    intro d_2
    induction d_2 with
    | zero => intro q A1 hq hB hA hm_2; exact absurd hm_2 (Nat.not_lt_zero _)
    | succ d_2 ih_2 =>
      intro q A1 hq hB hA hm_2
      have hS1 : ∀ j, j < 237 → A1 0 j = nI (S j) := fun j hj => by rw [hB 0 (by decide)]; exact hS j hj
      refine jv_iload_n X dX2_remembers_2 1 rfl ?_
      refine jv_sipush (v := nI 237) X dX2_remembers_3 rfl ?_
      refine jn_icmp_ge 27 X dX2_remembers_6 (by decide) (by omega) (by decide) (fun c6 => ?_) (fun c6 => ?_)
      · skip
        exact jv_vret X dX2_remembers_27 hQ (Nat.le_of_ble_eq_true rfl) (Nat.le_of_ble_eq_true rfl) ⟨_, rfl, ⟨hB, fun j hj => hA j (by omega)⟩⟩
      · skip
        refine jv_aload_n X dX2_remembers_9 0 rfl ?_
        refine jm_getA X dX2_remembers_10 2 (by decide) q2012 rfl ?_
        refine jv_iload_n X dX2_remembers_13 1 rfl ?_
        refine jv_aload_n X dX2_remembers_14 0 rfl ?_
        refine jm_getA X dX2_remembers_15 0 (by decide) q2010 rfl ?_
        refine jv_iload_n X dX2_remembers_18 1 rfl ?_
        refine jm_ld (v := nI (S q)) X hO dX2_remembers_19 0 (by decide) (show q < 237 from (by omega)) (hS1 _ (by omega)) ?_
        refine jm_st (v := nI (S q)) X hO dX2_remembers_20 2 (by decide) (show q < 237 from (by omega)) ?_
        refine jv_iinc (v := nI (q + 1)) (lv' := [(1, .int (nI (q + 1))), (0, .ref o.2.1)]) X dX2_remembers_21 1 rfl (nI_1 _) (by decide) rfl ?_
        refine jv_goto 2 X dX2_remembers_24 (by decide) ?_
        refine jv_lv (lv' := [(0, .ref o.2.1), (1, .int (nI (q + 1)))]) [1, 0] rfl ?_
        exact ih_2 (q + 1) (mdA A1 2 q (nI (S q))) (by omega) (fun i hi => by rw [mdA_i hi]; exact hB i hi) (fun j hj => by by_cases e : j = q; (rw [e, mdA_s]); (rw [mdA_o e]; exact hA j (by omega))) (by omega)
  refine jv_lv (lv' := [(0, .ref o.2.1), (1, .int (nI 0))]) [1, 0] rfl ?_
  exact lp2_1 (237 + 1) 0 A (Nat.zero_le _) (fun _ _ => rfl) (fun j hj => absurd hj (Nat.not_lt_zero _)) (by omega)
theorem chg_full {k : Nat} {H : Nat → Nat → Nat} {R : Nat → Nat} {A A1 A2 : Nat → Nat → Int32} {q i j : Nat} (c6 : k = 8) (hi : i < pk8 k) (hj : j < 237) (hD : ∀ t, t < q → A2 3 (237 * 7 + t) = nI (R t)) (hE : ∀ u, u < 237 * 7 → A2 3 u = A1 3 u) (hA : ∀ t, t < 1659 → A1 3 t = A 3 (t + 237)) (hH : ∀ i, i < k → ∀ j, j < 237 → A 3 (237 * i + j) = nI (H i j)) (hq : 237 ≤ q) : A2 3 (237 * i + j) = nI (pushH k H R i j) := by
  subst c6
  have hi : i < 8 := hi
  unfold pushH
  rw [if_pos rfl]
  by_cases e : i = 7
  · rw [if_pos e, e]; exact hD j (by omega)
  · rw [if_neg e, hE _ (by omega), hA _ (by omega), show 237 * i + j + 237 = 237 * (i + 1) + j by omega]
    exact hH (i + 1) (by omega) j hj
theorem chg_more {k : Nat} {H : Nat → Nat → Nat} {R : Nat → Nat} {A A2 : Nat → Nat → Int32} {q i j : Nat} (c6 : ¬ k = 8) (hi : i < pk8 k) (hj : j < 237) (hD : ∀ t, t < q → A2 3 (237 * k + t) = nI (R t)) (hE : ∀ u, u < 237 * k → A2 3 u = A 3 u) (hH : ∀ i, i < k → ∀ j, j < 237 → A 3 (237 * i + j) = nI (H i j)) (hq : 237 ≤ q) : A2 3 (237 * i + j) = nI (pushH k H R i j) := by
  unfold pk8 at hi
  rw [if_neg c6] at hi
  unfold pushH
  rw [if_neg c6]
  by_cases e : i = k
  · rw [if_pos e, e]; exact hD j (by omega)
  · rw [if_neg e, hE _ (by have : 237 * (i + 1) ≤ 237 * k := Nat.mul_le_mul_left _ (by omega); omega)]
    exact hH i (by omega) j hj
theorem hd_X2_changed : jv_dd yX2_changed 1 := by unfold jv_dd; decide +kernel
set_option maxHeartbeats 4000000 in
theorem c_X2_changed {l : Launch} {G : jv_G} {o : md_O} {F : Nat → Int32} {A : Nat → Nat → Int32} (hO : md_K G o) (a : Int32) (k : Nat) (hk8 : k ≤ 8) (hF4 : F 4 = nI k) (H : Nat → Nat → Nat) (hH : ∀ i, i < k → ∀ j, j < 237 → A 3 (237 * i + j) = nI (H i j)) (R : Nat → Nat) (hR : ∀ j, j < 237 → A 2 j = nI (R j)) : jv_Ct G l yX2_changed cX2_changed 3 (some .int) 0 0 0 0 [.ref o.2.1, .int a] (md_M G o F A) (jv_qi G (fun r M' => ∃ F' A', M' = md_M G o F' A' ∧ r = a ∧ chP k H R F A F' A')) := by
  refine jv_Ct.of (lv := [(0, .ref o.2.1), (1, .int a)]) (by decide) (Nat.le_of_ble_eq_true rfl) rfl ?_
  intro x Q_ hl_ hQ X
  subst hl_
  refine jv_aload_n X dX2_changed_0 0 rfl ?_
  refine jm_getF (v := nI k) X dX2_changed_1 4 (by decide) q2014 rfl hF4 ?_
  refine jv_bipush (v := nI 8) X dX2_changed_4 rfl ?_
  refine jn_icmp_ne 43 X dX2_changed_6 (by decide) (by omega) (by decide) (fun c6 => ?_) (fun c6 => ?_)
  · skip
    refine jv_aload_n X dX2_changed_43 0 rfl ?_
    refine jv_dup X dX2_changed_44 rfl ?_
    refine jm_getF (v := nI k) X dX2_changed_45 4 (by decide) q2014 rfl hF4 ?_
    refine jv_iconst (v := nI 1) X dX2_changed_48 rfl ?_
    refine jv_iadd (w := nI (k + 1)) X dX2_changed_49 (nI_add _ _) ?_
    refine jm_putF (ty := .int) (v := nI (k + 1)) X hO dX2_changed_50 4 (by decide) q2014 rfl rfl rfl rfl rfl ?_
    refine jv_iconst (v := nI 0) X dX2_changed_53 rfl ?_
    refine jv_istore_n (lv' := [(2, .int (nI 0)), (0, .ref o.2.1), (1, .int a)]) X dX2_changed_54 rfl (by decide) rfl ?_
    have lp55_1 : ∀ (d_55 : Nat) (q2 : Nat) (A2 : Nat → Nat → Int32), q2 ≤ 237 → (∀ i, i ≠ 3 → A2 i = A i) → (∀ t, t < q2 → A2 3 (237 * k + t) = nI (R t)) → (∀ u, u < 237 * k → A2 3 u = A 3 u) → 237 - q2 < d_55 → jv_J x G 3 Q_ (md_M G o (upd F 4 (nI (k + 1))) A2) 0 0 55 [(0, .ref o.2.1), (1, .int a), (2, .int (nI q2))] [] := by
      intro d_55
      induction d_55 with
      | zero => intro q2 A2 hq2 hB2 hD2 hE2 hm_55; exact absurd hm_55 (Nat.not_lt_zero _)
      | succ d_55 ih_55 =>
        intro q2 A2 hq2 hB2 hD2 hE2 hm_55
        refine jv_iload_n X dX2_changed_55 2 rfl ?_
        refine jv_sipush (v := nI 237) X dX2_changed_56 rfl ?_
        refine jn_icmp_ge 91 X dX2_changed_59 (by decide) (by omega) (by decide) (fun c59 => ?_) (fun c59 => ?_)
        · skip
          refine jv_iload_n X dX2_changed_91 1 rfl ?_
          exact jv_iret (v := a) X dX2_changed_92 rfl hQ (Nat.le_of_ble_eq_true rfl) (Nat.le_of_ble_eq_true rfl) ⟨_, _, rfl, ⟨rfl, fun q hq => by simp [upd, hq], by simp only [upd, pk8, if_neg c6]; rfl, hB2, fun i hi j hj => chg_more c6 hi hj hD2 hE2 hH (by omega)⟩⟩
        · skip
          refine jv_aload_n X dX2_changed_62 0 rfl ?_
          refine jm_getA X dX2_changed_63 3 (by decide) q2013 rfl ?_
          refine jv_sipush (v := nI 237) X dX2_changed_66 rfl ?_
          refine jv_aload_n X dX2_changed_69 0 rfl ?_
          refine jm_getF (v := nI (k + 1)) X dX2_changed_70 4 (by decide) q2014 rfl pk_us ?_
          refine jv_iconst (v := nI 1) X dX2_changed_73 rfl ?_
          refine jv_isub (w := nI ((k + 1) - 1)) X dX2_changed_74 (pk_sub (by omega)) ?_
          refine jv_imul (w := nI (237 * ((k + 1) - 1))) X dX2_changed_75 (pk_mul _ _) ?_
          refine jv_iload_n X dX2_changed_76 2 rfl ?_
          refine jv_iadd (w := nI ((237 * ((k + 1) - 1)) + q2)) X dX2_changed_77 (nI_add _ _) ?_
          refine jv_aload_n X dX2_changed_78 0 rfl ?_
          refine jm_getA X dX2_changed_79 2 (by decide) q2012 rfl ?_
          refine jv_iload_n X dX2_changed_82 2 rfl ?_
          refine jm_ld (v := nI (R q2)) X hO dX2_changed_83 2 (by decide) (show q2 < 237 from (by omega)) (by rw [hB2 2 (by decide)]; exact hR _ (by omega)) ?_
          refine jm_st (v := nI (R q2)) X hO dX2_changed_84 3 (by decide) (show ((237 * ((k + 1) - 1)) + q2) < 1896 from (by omega)) ?_
          refine jv_iinc (v := nI (q2 + 1)) (lv' := [(2, .int (nI (q2 + 1))), (0, .ref o.2.1), (1, .int a)]) X dX2_changed_85 2 rfl (nI_1 _) (by decide) rfl ?_
          refine jv_goto 55 X dX2_changed_88 (by decide) ?_
          refine jv_lv (lv' := [(0, .ref o.2.1), (1, .int a), (2, .int (nI (q2 + 1)))]) [1, 2, 0] rfl ?_
          exact ih_55 (q2 + 1) (mdA A2 3 ((237 * ((k + 1) - 1)) + q2) (nI (R q2))) (by omega) (fun i hi => by rw [mdA_i hi]; exact hB2 i hi) (fun t ht => by by_cases e : t = q2; (rw [e, show 237 * k + q2 = 237 * (k + 1 - 1) + q2 by omega, mdA_s]); (rw [mdA_o (by omega)]; exact hD2 t (by omega))) (fun u hu => by rw [mdA_o (by omega)]; exact hE2 u hu) (by omega)
    refine jv_lv (lv' := [(0, .ref o.2.1), (1, .int a), (2, .int (nI 0))]) [1, 2, 0] rfl ?_
    exact lp55_1 (237 + 1) 0 A (Nat.zero_le _) (fun _ _ => rfl) (fun t ht => absurd ht (Nat.not_lt_zero _)) (fun _ _ => rfl) (by omega)
  · skip
    have hA0 : ∀ t, t < 0 → A 3 t = A 3 (t + 237) := fun t ht => absurd ht (Nat.not_lt_zero _)
    refine jv_iconst (v := nI 0) X dX2_changed_9 rfl ?_
    refine jv_istore_n (lv' := [(2, .int (nI 0)), (0, .ref o.2.1), (1, .int a)]) X dX2_changed_10 rfl (by decide) rfl ?_
    have lp11_2 : ∀ (d_11 : Nat) (q : Nat) (A1 : Nat → Nat → Int32), q ≤ 1659 → (∀ i, i ≠ 3 → A1 i = A i) → (∀ t, t < q → A1 3 t = A 3 (t + 237)) → (∀ t, q ≤ t → A1 3 t = A 3 t) → 1659 - q < d_11 → jv_J x G 3 Q_ (md_M G o F A1) 0 0 11 [(0, .ref o.2.1), (1, .int a), (2, .int (nI q))] [] := by
      intro d_11
      induction d_11 with
      | zero => intro q A1 hq hB hA_ hC hm_11; exact absurd hm_11 (Nat.not_lt_zero _)
      | succ d_11 ih_11 =>
        intro q A1 hq hB hA_ hC hm_11
        refine jv_iload_n X dX2_changed_11 2 rfl ?_
        refine jv_sipush (v := nI 1659) X dX2_changed_12 rfl ?_
        refine jn_icmp_ge 40 X dX2_changed_15 (by decide) (by omega) (by decide) (fun c15 => ?_) (fun c15 => ?_)
        · skip
          have hA : ∀ t, t < 1659 → A1 3 t = A 3 (t + 237) := fun t ht => hA_ t (by omega)
          refine jv_goto 53 X dX2_changed_40 (by decide) ?_
          refine jv_iconst (v := nI 0) X dX2_changed_53 rfl ?_
          refine jv_istore_n (lv' := [(2, .int (nI 0)), (0, .ref o.2.1), (1, .int a)]) X dX2_changed_54 rfl (by decide) rfl ?_
          have lp55_3 : ∀ (d_55 : Nat) (q2 : Nat) (A2 : Nat → Nat → Int32), q2 ≤ 237 → (∀ i, i ≠ 3 → A2 i = A i) → (∀ t, t < q2 → A2 3 (237 * 7 + t) = nI (R t)) → (∀ u, u < 237 * 7 → A2 3 u = A1 3 u) → 237 - q2 < d_55 → jv_J x G 3 Q_ (md_M G o F A2) 0 0 55 [(0, .ref o.2.1), (1, .int a), (2, .int (nI q2))] [] := by
            intro d_55
            induction d_55 with
            | zero => intro q2 A2 hq2 hB2 hD2 hE2 hm_55; exact absurd hm_55 (Nat.not_lt_zero _)
            | succ d_55 ih_55 =>
              intro q2 A2 hq2 hB2 hD2 hE2 hm_55
              refine jv_iload_n X dX2_changed_55 2 rfl ?_
              refine jv_sipush (v := nI 237) X dX2_changed_56 rfl ?_
              refine jn_icmp_ge 91 X dX2_changed_59 (by decide) (by omega) (by decide) (fun c59 => ?_) (fun c59 => ?_)
              · skip
                refine jv_iload_n X dX2_changed_91 1 rfl ?_
                exact jv_iret (v := a) X dX2_changed_92 rfl hQ (Nat.le_of_ble_eq_true rfl) (Nat.le_of_ble_eq_true rfl) ⟨_, _, rfl, ⟨rfl, fun q hq => rfl, by rw [hF4, c6]; rfl, hB2, fun i hi j hj => chg_full c6 hi hj hD2 hE2 hA hH (by omega)⟩⟩
              · skip
                refine jv_aload_n X dX2_changed_62 0 rfl ?_
                refine jm_getA X dX2_changed_63 3 (by decide) q2013 rfl ?_
                refine jv_sipush (v := nI 237) X dX2_changed_66 rfl ?_
                refine jv_aload_n X dX2_changed_69 0 rfl ?_
                refine jm_getF (v := nI k) X dX2_changed_70 4 (by decide) q2014 rfl hF4 ?_
                refine jv_iconst (v := nI 1) X dX2_changed_73 rfl ?_
                refine jv_isub (w := nI (k - 1)) X dX2_changed_74 (pk_sub (by omega)) ?_
                refine jv_imul (w := nI (237 * (k - 1))) X dX2_changed_75 (pk_mul _ _) ?_
                refine jv_iload_n X dX2_changed_76 2 rfl ?_
                refine jv_iadd (w := nI ((237 * (k - 1)) + q2)) X dX2_changed_77 (nI_add _ _) ?_
                refine jv_aload_n X dX2_changed_78 0 rfl ?_
                refine jm_getA X dX2_changed_79 2 (by decide) q2012 rfl ?_
                refine jv_iload_n X dX2_changed_82 2 rfl ?_
                refine jm_ld (v := nI (R q2)) X hO dX2_changed_83 2 (by decide) (show q2 < 237 from (by omega)) (by rw [hB2 2 (by decide)]; exact hR _ (by omega)) ?_
                refine jm_st (v := nI (R q2)) X hO dX2_changed_84 3 (by decide) (show ((237 * (k - 1)) + q2) < 1896 from (by omega)) ?_
                refine jv_iinc (v := nI (q2 + 1)) (lv' := [(2, .int (nI (q2 + 1))), (0, .ref o.2.1), (1, .int a)]) X dX2_changed_85 2 rfl (nI_1 _) (by decide) rfl ?_
                refine jv_goto 55 X dX2_changed_88 (by decide) ?_
                refine jv_lv (lv' := [(0, .ref o.2.1), (1, .int a), (2, .int (nI (q2 + 1)))]) [1, 2, 0] rfl ?_
                exact ih_55 (q2 + 1) (mdA A2 3 ((237 * (k - 1)) + q2) (nI (R q2))) (by omega) (fun i hi => by rw [mdA_i hi]; exact hB2 i hi) (fun t ht => by by_cases e : t = q2; (rw [e, show 237 * 7 + q2 = 237 * (k - 1) + q2 by omega, mdA_s]); (rw [mdA_o (by omega)]; exact hD2 t (by omega))) (fun u hu => by rw [mdA_o (by omega)]; exact hE2 u hu) (by omega)
          refine jv_lv (lv' := [(0, .ref o.2.1), (1, .int a), (2, .int (nI 0))]) [1, 2, 0] rfl ?_
          exact lp55_3 (237 + 1) 0 A1 (Nat.zero_le _) hB (fun t ht => absurd ht (Nat.not_lt_zero _)) (fun _ _ => rfl) (by omega)
        · skip
          refine jv_aload_n X dX2_changed_18 0 rfl ?_
          refine jm_getA X dX2_changed_19 3 (by decide) q2013 rfl ?_
          refine jv_iload_n X dX2_changed_22 2 rfl ?_
          refine jv_aload_n X dX2_changed_23 0 rfl ?_
          refine jm_getA X dX2_changed_24 3 (by decide) q2013 rfl ?_
          refine jv_iload_n X dX2_changed_27 2 rfl ?_
          refine jv_sipush (v := nI 237) X dX2_changed_28 rfl ?_
          refine jv_iadd (w := nI (q + 237)) X dX2_changed_31 (nI_add _ _) ?_
          refine jm_ld (v := A 3 (q + 237)) X hO dX2_changed_32 3 (by decide) (show (q + 237) < 1896 from (by omega)) (hC _ (by omega)) ?_
          refine jm_st (v := A 3 (q + 237)) X hO dX2_changed_33 3 (by decide) (show q < 1896 from (by omega)) ?_
          refine jv_iinc (v := nI (q + 1)) (lv' := [(2, .int (nI (q + 1))), (0, .ref o.2.1), (1, .int a)]) X dX2_changed_34 2 rfl (nI_1 _) (by decide) rfl ?_
          refine jv_goto 11 X dX2_changed_37 (by decide) ?_
          refine jv_lv (lv' := [(0, .ref o.2.1), (1, .int a), (2, .int (nI (q + 1)))]) [1, 2, 0] rfl ?_
          exact ih_11 (q + 1) (mdA A1 3 q (A 3 (q + 237))) (by omega) (fun i hi => by rw [mdA_i hi]; exact hB i hi) (fun t ht => by by_cases e : t = q; (rw [e, mdA_s]); (rw [mdA_o e]; exact hA_ t (by omega))) (fun t ht => by rw [mdA_o (by omega)]; exact hC t (by omega)) (by omega)
    refine jv_lv (lv' := [(0, .ref o.2.1), (1, .int a), (2, .int (nI 0))]) [1, 2, 0] rfl ?_
    exact lp11_2 (1659 + 1) 0 A (Nat.zero_le _) (fun _ _ => rfl) hA0 (fun _ _ => rfl) (by omega)
