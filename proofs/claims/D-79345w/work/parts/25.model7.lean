/-! reference, seventh -/
set_option maxRecDepth 100000
theorem hd_X2_undo : jv_dd yX2_undo 0 := by unfold jv_dd; decide +kernel
set_option maxHeartbeats 4000000 in
theorem c_X2_undo {l : Launch} {G : jv_G} {o : md_O} {F : Nat → Int32} {A : Nat → Nat → Int32} {S : Nat → Nat} (hO : md_K G o) (hS : ∀ j, j < 237 → A 0 j = nI (S j)) {z : t_Z} (hz : isZ F A z) (hk8 : zk z ≤ 8) (hW : wfB S)   : jv_Ct G l yX2_undo cX2_undo 2 (some .int) 0 0 0 0 [.ref o.2.1] (md_M G o F A) (jv_qi G (fun r M' => ∃ F' A', M' = md_M G o F' A' ∧ r = (m_undo z).1 ∧ isZ F' A' (m_undo z).2)) := by
  refine jv_Ct.of (lv := [(0, .ref o.2.1)]) (by decide) (Nat.le_of_ble_eq_true rfl) rfl ?_
  intro x Q_ hl_ hQ X
  subst hl_
  refine jv_aload_n X dX2_undo_0 0 rfl ?_
  refine jm_getF (v := nI (zk z)) X dX2_undo_1 4 (by decide) q2014 rfl hz.kp ?_
  refine jn_if_ne 10 X dX2_undo_4 (by decide) (by omega) (fun c4 => ?_) (fun c4 => ?_)
  · skip
    refine jv_aload_n X dX2_undo_10 0 rfl ?_
    refine jv_dup X dX2_undo_11 rfl ?_
    refine jm_getF (v := nI (zk z)) X dX2_undo_12 4 (by decide) q2014 rfl hz.kp ?_
    refine jv_iconst (v := nI 1) X dX2_undo_15 rfl ?_
    refine jv_isub (w := nI ((zk z) - 1)) X dX2_undo_16 (pk_sub (by omega)) ?_
    refine jm_putF (ty := .int) (v := nI ((zk z) - 1)) X hO dX2_undo_17 4 (by decide) q2014 rfl rfl rfl rfl rfl ?_
    refine jv_iconst (v := nI 0) X dX2_undo_20 rfl ?_
    refine jv_istore_n (lv' := [(1, .int (nI 0)), (0, .ref o.2.1)]) X dX2_undo_21 rfl (by decide) rfl ?_
    have lp22_1 : ∀ (d_22 : Nat) (q : Nat) (A1 : Nat → Nat → Int32), q ≤ 237 → (∀ i, i ≠ 0 → A1 i = A i) → (∀ j, j < q → A1 0 j = nI (zH z (zk z - 1) j)) → 237 - q < d_22 → jv_J x G 2 Q_ (md_M G o (upd F 4 (nI ((zk z) - 1))) A1) 0 0 22 [(0, .ref o.2.1), (1, .int (nI q))] [] := by
      intro d_22
      induction d_22 with
      | zero => intro q A1 hq hB hA hm_22; exact absurd hm_22 (Nat.not_lt_zero _)
      | succ d_22 ih_22 =>
        intro q A1 hq hB hA hm_22
        refine jv_iload_n X dX2_undo_22 1 rfl ?_
        refine jv_sipush (v := nI 237) X dX2_undo_23 rfl ?_
        refine jn_icmp_ge 56 X dX2_undo_26 (by decide) (by omega) (by decide) (fun c26 => ?_) (fun c26 => ?_)
        · skip
          refine jv_aload_n X dX2_undo_56 0 rfl ?_
          refine jm_getF (v := nI ((zk z) - 1)) X dX2_undo_57 4 (by decide) q2014 rfl pk_us ?_
          exact jv_iret (v := nI ((zk z) - 1)) X dX2_undo_60 rfl hQ (Nat.le_of_ble_eq_true rfl) (Nat.le_of_ble_eq_true rfl) ⟨_, _, rfl, (by rw [m_undo, if_neg c4]; exact ⟨rfl, hz.undo c4 hB (fun j hj => hA j (by omega))⟩)⟩
        · skip
          refine jv_aload_n X dX2_undo_29 0 rfl ?_
          refine jm_getA X dX2_undo_30 0 (by decide) q2010 rfl ?_
          refine jv_iload_n X dX2_undo_33 1 rfl ?_
          refine jv_aload_n X dX2_undo_34 0 rfl ?_
          refine jm_getA X dX2_undo_35 3 (by decide) q2013 rfl ?_
          refine jv_sipush (v := nI 237) X dX2_undo_38 rfl ?_
          refine jv_aload_n X dX2_undo_41 0 rfl ?_
          refine jm_getF (v := nI ((zk z) - 1)) X dX2_undo_42 4 (by decide) q2014 rfl pk_us ?_
          refine jv_imul (w := nI (237 * ((zk z) - 1))) X dX2_undo_45 (pk_mul _ _) ?_
          refine jv_iload_n X dX2_undo_46 1 rfl ?_
          refine jv_iadd (w := nI ((237 * ((zk z) - 1)) + q)) X dX2_undo_47 (nI_add _ _) ?_
          refine jm_ld (v := nI (zH z (zk z - 1) q)) X hO dX2_undo_48 3 (by decide) (show ((237 * ((zk z) - 1)) + q) < 1896 from (by omega)) ((congrFun (hB 3 (by decide)) _).trans (hz.hi (zk z - 1) (by omega) q (by omega))) ?_
          refine jm_st (v := nI (zH z (zk z - 1) q)) X hO dX2_undo_49 0 (by decide) (show q < 237 from (by omega)) ?_
          refine jv_iinc (v := nI (q + 1)) (lv' := [(1, .int (nI (q + 1))), (0, .ref o.2.1)]) X dX2_undo_50 1 rfl (nI_1 _) (by decide) rfl ?_
          refine jv_goto 22 X dX2_undo_53 (by decide) ?_
          refine jv_lv (lv' := [(0, .ref o.2.1), (1, .int (nI (q + 1)))]) [1, 0] rfl ?_
          exact ih_22 (q + 1) (mdA A1 0 q (nI (zH z (zk z - 1) q))) (by omega) (fun i hi => by rw [mdA_i hi]; exact hB i hi) (fun j hj => by by_cases e : j = q; (rw [e, mdA_s]); (rw [mdA_o e]; exact hA j (by omega))) (by omega)
    refine jv_lv (lv' := [(0, .ref o.2.1), (1, .int (nI 0))]) [1, 0] rfl ?_
    exact lp22_1 (237 + 1) 0 A (Nat.zero_le _) (fun _ _ => rfl) (fun j hj => absurd hj (Nat.not_lt_zero _)) (by omega)
  · skip
    refine jv_bipush (v := (-3)) X dX2_undo_7 rfl ?_
    exact jv_iret (v := (-3)) X dX2_undo_9 rfl hQ (Nat.le_of_ble_eq_true rfl) (Nat.le_of_ble_eq_true rfl) ⟨_, _, rfl, (by rw [m_undo, if_pos c4]; exact ⟨rfl, hz⟩)⟩
theorem hd_X2_save : jv_dd yX2_save 0 := by unfold jv_dd; decide +kernel
set_option maxHeartbeats 4000000 in
theorem c_X2_save {l : Launch} {G : jv_G} {o : md_O} {F : Nat → Int32} {A : Nat → Nat → Int32} {S : Nat → Nat} (hO : md_K G o) (hS : ∀ j, j < 237 → A 0 j = nI (S j)) {z : t_Z} (hz : isZ F A z) (hk8 : zk z ≤ 8) (hW : wfB S) (hzS : zS z = S)   : jv_Ct G l yX2_save cX2_save 2 (some .int) 0 0 0 0 [.ref o.2.1] (md_M G o F A) (jv_qi G (fun r M' => ∃ F' A', M' = md_M G o F' A' ∧ r = (m_save z S).1 ∧ isZ F' A' (m_save z S).2)) := by
  refine jv_Ct.of (lv := [(0, .ref o.2.1)]) (by decide) (Nat.le_of_ble_eq_true rfl) rfl ?_
  intro x Q_ hl_ hQ X
  subst hl_
  refine jv_iconst (v := nI 0) X dX2_save_0 rfl ?_
  refine jv_istore_n (lv' := [(1, .int (nI 0)), (0, .ref o.2.1)]) X dX2_save_1 rfl (by decide) rfl ?_
  have lp2_1 : ∀ (d_2 : Nat) (q : Nat) (A1 : Nat → Nat → Int32), q ≤ 237 → (∀ i, i ≠ 1 → A1 i = A i) → (∀ j, j < q → A1 1 j = nI (S j)) → 237 - q < d_2 → jv_J x G 2 Q_ (md_M G o F A1) 0 0 2 [(0, .ref o.2.1), (1, .int (nI q))] [] := by
    intro d_2
    induction d_2 with
    | zero => intro q A1 hq hB hA hm_2; exact absurd hm_2 (Nat.not_lt_zero _)
    | succ d_2 ih_2 =>
      intro q A1 hq hB hA hm_2
      refine jv_iload_n X dX2_save_2 1 rfl ?_
      refine jv_sipush (v := nI 237) X dX2_save_3 rfl ?_
      refine jn_icmp_ge 27 X dX2_save_6 (by decide) (by omega) (by decide) (fun c6 => ?_) (fun c6 => ?_)
      · skip
        refine jv_aload_n X dX2_save_27 0 rfl ?_
        refine jv_iconst (v := nI 1) X dX2_save_28 rfl ?_
        refine jm_putF (ty := .boolean) (v := bI true) X hO dX2_save_29 5 (by decide) q2015 rfl rfl (bI_nar _) (bI_fit _) rfl ?_
        refine jv_aload_n X dX2_save_32 0 rfl ?_
        refine jm_getA X dX2_save_33 0 (by decide) q2010 rfl ?_
        refine jv_iconst (v := nI 1) X dX2_save_36 rfl ?_
        refine jm_ld (v := nI (S 1)) X hO dX2_save_37 0 (by decide) (show 1 < 237 from (by omega)) ((congrFun (hB 0 (by decide)) _).trans (hS _ (by omega))) ?_
        exact jv_iret (v := nI (S 1)) X dX2_save_38 rfl hQ (Nat.le_of_ble_eq_true rfl) (Nat.le_of_ble_eq_true rfl) ⟨_, _, rfl, ⟨rfl, by subst hzS; exact hz.save hB (fun j hj => hA j (by omega))⟩⟩
      · skip
        refine jv_aload_n X dX2_save_9 0 rfl ?_
        refine jm_getA X dX2_save_10 1 (by decide) q2011 rfl ?_
        refine jv_iload_n X dX2_save_13 1 rfl ?_
        refine jv_aload_n X dX2_save_14 0 rfl ?_
        refine jm_getA X dX2_save_15 0 (by decide) q2010 rfl ?_
        refine jv_iload_n X dX2_save_18 1 rfl ?_
        refine jm_ld (v := nI (S q)) X hO dX2_save_19 0 (by decide) (show q < 237 from (by omega)) ((congrFun (hB 0 (by decide)) _).trans (hS _ (by omega))) ?_
        refine jm_st (v := nI (S q)) X hO dX2_save_20 1 (by decide) (show q < 237 from (by omega)) ?_
        refine jv_iinc (v := nI (q + 1)) (lv' := [(1, .int (nI (q + 1))), (0, .ref o.2.1)]) X dX2_save_21 1 rfl (nI_1 _) (by decide) rfl ?_
        refine jv_goto 2 X dX2_save_24 (by decide) ?_
        refine jv_lv (lv' := [(0, .ref o.2.1), (1, .int (nI (q + 1)))]) [1, 0] rfl ?_
        exact ih_2 (q + 1) (mdA A1 1 q (nI (S q))) (by omega) (fun i hi => by rw [mdA_i hi]; exact hB i hi) (fun j hj => by by_cases e : j = q; (rw [e, mdA_s]); (rw [mdA_o e]; exact hA j (by omega))) (by omega)
  refine jv_lv (lv' := [(0, .ref o.2.1), (1, .int (nI 0))]) [1, 0] rfl ?_
  exact lp2_1 (237 + 1) 0 A (Nat.zero_le _) (fun _ _ => rfl) (fun j hj => absurd hj (Nat.not_lt_zero _)) (by omega)
theorem hd_X2_restore : jv_dd yX2_restore 0 := by unfold jv_dd; decide +kernel
set_option maxHeartbeats 4000000 in
theorem c_X2_restore {l : Launch} {G : jv_G} {o : md_O} {F : Nat → Int32} {A : Nat → Nat → Int32} {S : Nat → Nat} (hO : md_K G o) (hS : ∀ j, j < 237 → A 0 j = nI (S j)) {z : t_Z} (hz : isZ F A z) (hk8 : zk z ≤ 8) (hW : wfB S)   : jv_Ct G l yX2_restore cX2_restore 2 (some .int) 0 0 0 0 [.ref o.2.1] (md_M G o F A) (jv_qi G (fun r M' => ∃ F' A', M' = md_M G o F' A' ∧ r = (m_restore z).1 ∧ isZ F' A' (m_restore z).2)) := by
  refine jv_Ct.of (lv := [(0, .ref o.2.1)]) (by decide) (Nat.le_of_ble_eq_true rfl) rfl ?_
  intro x Q_ hl_ hQ X
  subst hl_
  refine jv_aload_n X dX2_restore_0 0 rfl ?_
  refine jm_getF (v := bI (zb z)) X dX2_restore_1 5 (by decide) q2015 rfl hz.2.1 ?_
  refine jb_if_ne 10 X dX2_restore_4 (by decide) (fun c4 => ?_) (fun c4 => ?_)
  · skip
    refine jv_iconst (v := nI 0) X dX2_restore_10 rfl ?_
    refine jv_istore_n (lv' := [(1, .int (nI 0)), (0, .ref o.2.1)]) X dX2_restore_11 rfl (by decide) rfl ?_
    have lp12_1 : ∀ (d_12 : Nat) (q : Nat) (A1 : Nat → Nat → Int32), q ≤ 237 → (∀ i, i ≠ 0 → A1 i = A i) → (∀ j, j < q → A1 0 j = nI (zV z j)) → 237 - q < d_12 → jv_J x G 2 Q_ (md_M G o F A1) 0 0 12 [(0, .ref o.2.1), (1, .int (nI q))] [] := by
      intro d_12
      induction d_12 with
      | zero => intro q A1 hq hB hA hm_12; exact absurd hm_12 (Nat.not_lt_zero _)
      | succ d_12 ih_12 =>
        intro q A1 hq hB hA hm_12
        refine jv_iload_n X dX2_restore_12 1 rfl ?_
        refine jv_sipush (v := nI 237) X dX2_restore_13 rfl ?_
        refine jn_icmp_ge 37 X dX2_restore_16 (by decide) (by omega) (by decide) (fun c16 => ?_) (fun c16 => ?_)
        · skip
          refine jv_aload_n X dX2_restore_37 0 rfl ?_
          refine jv_iconst (v := nI 0) X dX2_restore_38 rfl ?_
          refine jm_putF (ty := .int) (v := nI 0) X hO dX2_restore_39 4 (by decide) q2014 rfl rfl rfl rfl rfl ?_
          refine jv_aload_n X dX2_restore_42 0 rfl ?_
          refine jm_getA X dX2_restore_43 0 (by decide) q2010 rfl ?_
          refine jv_iconst (v := nI 1) X dX2_restore_46 rfl ?_
          refine jm_ld (v := nI (zV z 1)) X hO dX2_restore_47 0 (by decide) (show 1 < 237 from (by omega)) (hA _ (by omega)) ?_
          exact jv_iret (v := nI (zV z 1)) X dX2_restore_48 rfl hQ (Nat.le_of_ble_eq_true rfl) (Nat.le_of_ble_eq_true rfl) ⟨_, _, rfl, (by rw [m_restore, if_pos c4]; exact ⟨rfl, hz.rest hB (fun j hj => hA j (by omega))⟩)⟩
        · skip
          refine jv_aload_n X dX2_restore_19 0 rfl ?_
          refine jm_getA X dX2_restore_20 0 (by decide) q2010 rfl ?_
          refine jv_iload_n X dX2_restore_23 1 rfl ?_
          refine jv_aload_n X dX2_restore_24 0 rfl ?_
          refine jm_getA X dX2_restore_25 1 (by decide) q2011 rfl ?_
          refine jv_iload_n X dX2_restore_28 1 rfl ?_
          refine jm_ld (v := nI (zV z q)) X hO dX2_restore_29 1 (by decide) (show q < 237 from (by omega)) ((congrFun (hB 1 (by decide)) _).trans (hz.2.2.1 c4 q (by omega))) ?_
          refine jm_st (v := nI (zV z q)) X hO dX2_restore_30 0 (by decide) (show q < 237 from (by omega)) ?_
          have hS2 := mdA_S hS q (zV z q)
          refine jv_iinc (v := nI (q + 1)) (lv' := [(1, .int (nI (q + 1))), (0, .ref o.2.1)]) X dX2_restore_31 1 rfl (nI_1 _) (by decide) rfl ?_
          refine jv_goto 12 X dX2_restore_34 (by decide) ?_
          refine jv_lv (lv' := [(0, .ref o.2.1), (1, .int (nI (q + 1)))]) [1, 0] rfl ?_
          exact ih_12 (q + 1) (mdA A1 0 q (nI (zV z q))) (by omega) (fun i hi => by rw [mdA_i hi]; exact hB i hi) (fun j hj => by by_cases e : j = q; (rw [e, mdA_s]); (rw [mdA_o e]; exact hA j (by omega))) (by omega)
    refine jv_lv (lv' := [(0, .ref o.2.1), (1, .int (nI 0))]) [1, 0] rfl ?_
    exact lp12_1 (237 + 1) 0 A (Nat.zero_le _) (fun _ _ => rfl) (fun j hj => absurd hj (Nat.not_lt_zero _)) (by omega)
  · skip
    refine jv_bipush (v := (-3)) X dX2_restore_7 rfl ?_
    exact jv_iret (v := (-3)) X dX2_restore_9 rfl hQ (Nat.le_of_ble_eq_true rfl) (Nat.le_of_ble_eq_true rfl) ⟨_, _, rfl, (by rw [m_restore, if_neg (Bool.eq_false_iff.mp c4)]; exact ⟨rfl, hz⟩)⟩
theorem hd_X2_assume : jv_dd yX2_assume 2 := by unfold jv_dd; decide +kernel
set_option maxHeartbeats 4000000 in
theorem c_X2_assume {l : Launch} {G : jv_G} {o : md_O} {F : Nat → Int32} {A : Nat → Nat → Int32} {S : Nat → Nat} (hO : md_K G o) (hS : ∀ j, j < 237 → A 0 j = nI (S j)) {z : t_Z} (hz : isZ F A z) (hk8 : zk z ≤ 8) (hWs : wfS S) (p : Int32) (v : Int32)  : jv_Ct G l yX2_assume cX2_assume 3 (some .int) 7 0 0 164 [.ref o.2.1, .int p, .int v] (md_M G o F A) (jv_qi G (fun r M' => ∃ F' A', M' = md_M G o F' A' ∧ r = (m_assume z S p v).1 ∧ isZ F' A' (m_assume z S p v).2)) := by
  refine jv_Ct.of (lv := [(0, .ref o.2.1), (1, .int p), (2, .int v)]) (by decide) (Nat.le_of_ble_eq_true rfl) rfl ?_
  intro x Q_ hl_ hQ X
  subst hl_
  have hW := hWs.1
  have hS0 := hW.p
  refine jv_aload_n X dX2_assume_0 0 rfl ?_
  refine jv_callv (jv_runV (As := []) (rest := []) X dX2_assume_1 (c_X2_remembers hO hS) (lw_V q2096 q2098 qs39 q100 q2099) hd_X2_remembers md_M_o rfl (Nat.le_of_ble_eq_true rfl) (Nat.le_of_ble_eq_true rfl) (Nat.le_of_ble_eq_true rfl) (Nat.le_of_ble_eq_true rfl) rfl (Nat.le_of_ble_eq_true rfl)) (fun M_ h_ => ?_)
  obtain ⟨A1, rfl, h1⟩ := h_
  have hS1 : ∀ j, j < 237 → A1 0 j = nI (S j) := fun j hj => by rw [h1.1 0 (by decide)]; exact hS j hj
  refine jv_aload_n X dX2_assume_4 0 rfl ?_
  refine jv_callv (jv_runV (As := []) (rest := []) X dX2_assume_5 (c_X2_goesAll hO hS1 hWs) (lw_V q2221 q2223 qs56 q100 q2224) hd_X2_goesAll md_M_o rfl (Nat.le_of_ble_eq_true rfl) (Nat.le_of_ble_eq_true rfl) (Nat.le_of_ble_eq_true rfl) (Nat.le_of_ble_eq_true rfl) rfl (Nat.le_of_ble_eq_true rfl)) (fun M_ h_ => ?_)
  obtain ⟨F2, A2, rfl, hT2, hK2⟩ := h_
  have hS2 := hK2.S hS1
  have hk2 := okT.ga hW
  skip
  refine jv_aload_n X dX2_assume_8 0 rfl ?_
  refine jv_iload_n X dX2_assume_9 1 rfl ?_
  refine jv_ask (jv_runV (As := [.int p]) (rest := []) X dX2_assume_10 (c_X2_isPack hO hS2 p) (lw_V q2108 q2110 qs41 q100 q2111) hd_X2_isPack md_M_o rfl (Nat.le_of_ble_eq_true rfl) (Nat.le_of_ble_eq_true rfl) (Nat.le_of_ble_eq_true rfl) (Nat.le_of_ble_eq_true rfl) rfl (Nat.le_of_ble_eq_true rfl)) ?_
  refine jb_if_ne 18 X dX2_assume_13 (by decide) (fun c13 => ?_) (fun c13 => ?_)
  · skip
    refine jv_aload_n X dX2_assume_18 0 rfl ?_
    refine jv_iload_n X dX2_assume_19 1 rfl ?_
    refine jv_iload_n X dX2_assume_20 2 rfl ?_
    refine jv_ask (jv_runV (As := [.int p, .int v]) (rest := []) X dX2_assume_21 (c_X2_isState hO hS2 p v hW) (lw_V q2269 q2271 qs65 q100 q2272) hd_X2_isState md_M_o rfl (Nat.le_of_ble_eq_true rfl) (Nat.le_of_ble_eq_true rfl) (Nat.le_of_ble_eq_true rfl) (Nat.le_of_ble_eq_true rfl) rfl (Nat.le_of_ble_eq_true rfl)) ?_
    refine jb_if_ne 30 X dX2_assume_24 (by decide) (fun c24 => ?_) (fun c24 => ?_)
    · skip
      have hq_p : nI (p.toNatClampNeg) = p := (v_isPack_n hW c13).2
      refine jv_to (lv' := [(0, .ref o.2.1), (1, .int (nI p.toNatClampNeg)), (2, .int v)]) (st' := []) (by rw [hq_p]) rfl ?_
      have hq_v : nI (v.toNatClampNeg) = v := (v_isState_n hW c24).2
      refine jv_to (lv' := [(0, .ref o.2.1), (1, .int (nI p.toNatClampNeg)), (2, .int (nI v.toNatClampNeg))]) (st' := []) (by rw [hq_v]) rfl ?_
      have hp0 := (v_isPack_n hW c13).1
      have hv0 := (v_isState_n hW c24).1
      have hok := okT.ga hW
      have h64 := hok.2.1 p.toNatClampNeg (by omega)
      refine jv_aload_n X dX2_assume_30 0 rfl ?_
      refine jm_getF (v := cI (tc (gA S))) X dX2_assume_31 17 (by decide) q2027 rfl hT2.2.1 ?_
      refine jv_iconst (v := (-1)) X dX2_assume_34 rfl ?_
      refine jv_icmp_ne 59 X dX2_assume_35 (by decide) (fun c35 => ?_) (fun c35 => ?_)
      · skip
        refine jv_bipush (v := (-3)) X dX2_assume_59 rfl ?_
        exact jv_iret (v := (-3)) X dX2_assume_61 rfl hQ (Nat.le_of_ble_eq_true rfl) (Nat.le_of_ble_eq_true rfl) ⟨_, _, rfl, (by rw [m_assume, if_pos c13, if_pos c24, if_neg (fun e => c35 ((cI_m1 hok.2.2).mpr e))]; exact ⟨rfl, hz.scr (fun k e => (hK2.1 k (by omega) (by omega))) (fun k e => (hK2.2 k (by omega) (by omega) (by omega) (by omega)).trans (h1.1 k (by omega)))⟩)⟩
      · skip
        refine jv_aload_n X dX2_assume_38 0 rfl ?_
        refine jm_getA X dX2_assume_39 12 (by decide) q2022 rfl ?_
        refine jv_iload_n X dX2_assume_42 1 rfl ?_
        refine jm_ld (v := nI (tl (gA S) p.toNatClampNeg)) X hO dX2_assume_43 12 (by decide) (show p.toNatClampNeg < 6 from (by omega)) (hT2.2.2.1 _ (by omega)) ?_
        refine jv_iload_n X dX2_assume_44 2 rfl ?_
        refine jv_ishr (w := nI ((tl (gA S) p.toNatClampNeg) / 2 ^ v.toNatClampNeg)) X dX2_assume_45 (ni_shr (by omega) (by omega)) ?_
        refine jv_iconst (v := nI 1) X dX2_assume_46 rfl ?_
        refine jv_iand (w := nI (((tl (gA S) p.toNatClampNeg) / 2 ^ v.toNatClampNeg) &&& 1)) X dX2_assume_47 (ni_and _ _) ?_
        refine jn_if_eq 59 X dX2_assume_48 (by decide) (Nat.lt_of_le_of_lt Nat.and_le_right (by decide)) (fun c48 => ?_) (fun c48 => ?_)
        · skip
          refine jv_bipush (v := (-3)) X dX2_assume_59 rfl ?_
          exact jv_iret (v := (-3)) X dX2_assume_61 rfl hQ (Nat.le_of_ble_eq_true rfl) (Nat.le_of_ble_eq_true rfl) ⟨_, _, rfl, (by rw [m_assume, if_pos c13, if_pos c24, if_pos ((cI_m1 hok.2.2).mp c35), if_pos c48]; exact ⟨rfl, hz.scr (fun k e => (hK2.1 k (by omega) (by omega))) (fun k e => (hK2.2 k (by omega) (by omega) (by omega) (by omega)).trans (h1.1 k (by omega)))⟩)⟩
        · skip
          refine jv_aload_n X dX2_assume_51 0 rfl ?_
          refine jv_iload_n X dX2_assume_52 1 rfl ?_
          refine jv_ask (jv_runV (As := [.int (nI p.toNatClampNeg)]) (rest := []) X dX2_assume_53 (c_X2_isAssumed hO hS2 p.toNatClampNeg (by omega) hW) (lw_V q2293 q2295 qs67 q100 q2296) hd_X2_isAssumed md_M_o rfl (Nat.le_of_ble_eq_true rfl) (Nat.le_of_ble_eq_true rfl) (Nat.le_of_ble_eq_true rfl) (Nat.le_of_ble_eq_true rfl) rfl (Nat.le_of_ble_eq_true rfl)) ?_
          refine jb_if_eq 62 X dX2_assume_56 (by decide) (fun c56 => ?_) (fun c56 => ?_)
          · skip
            have hr6 := asm_room hWs hp0 (Bool.eq_false_iff.mpr (Bool.eq_false_iff.mp c56))
            refine jv_aload_n X dX2_assume_62 0 rfl ?_
            refine jm_getA X dX2_assume_63 0 (by decide) q2010 rfl ?_
            refine jv_sipush (v := nI 225) X dX2_assume_66 rfl ?_
            refine jv_iconst (v := nI 2) X dX2_assume_69 rfl ?_
            refine jv_aload_n X dX2_assume_70 0 rfl ?_
            refine jm_getA X dX2_assume_71 0 (by decide) q2010 rfl ?_
            refine jv_iconst (v := nI 2) X dX2_assume_74 rfl ?_
            refine jm_ld (v := nI (S 2)) X hO dX2_assume_75 0 (by decide) (show 2 < 237 from (by omega)) (hS2 _ (by omega)) ?_
            refine jv_imul (w := nI (2 * (S 2))) X dX2_assume_76 (pk_mul _ _) ?_
            refine jv_iadd (w := nI (225 + (2 * (S 2)))) X dX2_assume_77 (nI_add _ _) ?_
            refine jv_iload_n X dX2_assume_78 1 rfl ?_
            refine jm_st (v := nI p.toNatClampNeg) X hO dX2_assume_79 0 (by decide) (show (225 + (2 * (S 2))) < 237 from (by omega)) ?_
            have hS3 := mdA_S hS2 (225 + (2 * (S 2))) p.toNatClampNeg
            refine jv_aload_n X dX2_assume_80 0 rfl ?_
            refine jm_getA X dX2_assume_81 0 (by decide) q2010 rfl ?_
            refine jv_sipush (v := nI 225) X dX2_assume_84 rfl ?_
            refine jv_iconst (v := nI 2) X dX2_assume_87 rfl ?_
            refine jv_aload_n X dX2_assume_88 0 rfl ?_
            refine jm_getA X dX2_assume_89 0 (by decide) q2010 rfl ?_
            refine jv_iconst (v := nI 2) X dX2_assume_92 rfl ?_
            refine jm_ld (v := nI (S 2)) X hO dX2_assume_93 0 (by decide) (show 2 < 237 from (by omega)) ((hS3 _ (by omega)).trans (by unfold up2; rw [if_neg (by omega)])) ?_
            refine jv_imul (w := nI (2 * (S 2))) X dX2_assume_94 (pk_mul _ _) ?_
            refine jv_iadd (w := nI (225 + (2 * (S 2)))) X dX2_assume_95 (nI_add _ _) ?_
            refine jv_iconst (v := nI 1) X dX2_assume_96 rfl ?_
            refine jv_iadd (w := nI ((225 + (2 * (S 2))) + 1)) X dX2_assume_97 (nI_add _ _) ?_
            refine jv_iload_n X dX2_assume_98 2 rfl ?_
            refine jm_st (v := nI v.toNatClampNeg) X hO dX2_assume_99 0 (by decide) (show ((225 + (2 * (S 2))) + 1) < 237 from (by omega)) ?_
            have hS4 := mdA_S hS3 ((225 + (2 * (S 2))) + 1) v.toNatClampNeg
            refine jv_aload_n X dX2_assume_100 0 rfl ?_
            refine jm_getA X dX2_assume_101 0 (by decide) q2010 rfl ?_
            refine jv_iconst (v := nI 2) X dX2_assume_104 rfl ?_
            refine jv_dup2 X dX2_assume_105 rfl rfl ?_
            refine jm_ld (v := nI (S 2)) X hO dX2_assume_106 0 (by decide) (show 2 < 237 from (by omega)) ((hS4 _ (by omega)).trans (by unfold up2; rw [if_neg (by omega), if_neg (by omega)])) ?_
            refine jv_iconst (v := nI 1) X dX2_assume_107 rfl ?_
            refine jv_iadd (w := nI ((S 2) + 1)) X dX2_assume_108 (nI_add _ _) ?_
            refine jm_st (v := nI ((S 2) + 1)) X hO dX2_assume_109 0 (by decide) (show 2 < 237 from (by omega)) ?_
            have hS5 := mdA_S hS4 2 ((S 2) + 1)
            have hSa : ∀ j, j < 237 → mdA (mdA (mdA A2 0 (225 + (2 * (S 2))) (nI p.toNatClampNeg)) 0 ((225 + (2 * (S 2))) + 1) (nI v.toNatClampNeg)) 0 2 (nI ((S 2) + 1)) 0 j = nI (asmS S p.toNatClampNeg v.toNatClampNeg j) := hS5
            have hWn := hWs.asm hp0 hv0 (Bool.eq_false_iff.mpr (Bool.eq_false_iff.mp c56))
            refine jv_aload_n X dX2_assume_110 0 rfl ?_
            refine jv_callv (jv_runV (As := []) (rest := []) X dX2_assume_111 (c_X2_goesAll hO hSa hWn) (lw_V q2221 q2223 qs56 q100 q2224) hd_X2_goesAll md_M_o rfl (Nat.le_of_ble_eq_true rfl) (Nat.le_of_ble_eq_true rfl) (Nat.le_of_ble_eq_true rfl) (Nat.le_of_ble_eq_true rfl) rfl (Nat.le_of_ble_eq_true rfl)) (fun M_ h_ => ?_)
            obtain ⟨F6, A6, rfl, hT6, hK6⟩ := h_
            have hS6 := hK6.S hSa
            have hk6 := okT.ga hWn.1
            skip
            refine jv_aload_n X dX2_assume_114 0 rfl ?_
            refine jv_aload_n X dX2_assume_115 0 rfl ?_
            refine jm_getF (v := nI (tn (gA (asmS S p.toNatClampNeg v.toNatClampNeg)))) X dX2_assume_116 16 (by decide) q2026 rfl hT6.1 ?_
            have hF4n : F6 4 = nI (zk z) := (hK6.1 4 (by decide) (by decide)).trans ((hK2.1 4 (by decide) (by decide)).trans hz.kp)
            have hFk : ∀ k, k = 5 ∨ k = 7 ∨ k = 8 ∨ k = 9 ∨ k = 11 → F6 k = F k := fun k e => (hK6.1 k (by omega) (by omega)).trans (hK2.1 k (by omega) (by omega))
            have hAm : ∀ i, i ≠ 0 → i ≠ 2 → i ≠ 12 → i ≠ 13 → i ≠ 14 → i ≠ 15 → A6 i = A i := fun i a0 a2 a b c d => (hK6.2 i a b c d).trans ((by simp only [mdA_i a0] : mdA (mdA (mdA A2 0 (225 + (2 * (S 2))) (nI p.toNatClampNeg)) 0 ((225 + (2 * (S 2))) + 1) (nI v.toNatClampNeg)) 0 2 (nI ((S 2) + 1)) i = _).trans ((hK2.2 i a b c d).trans (h1.1 i a2)))
            have hAk : ∀ i, i = 1 ∨ i = 3 ∨ i = 6 ∨ i = 10 → A6 i = A i := fun i e => hAm i (by omega) (by omega) (by omega) (by omega) (by omega) (by omega)
            have hAr : ∀ j, j < 237 → A6 2 j = nI (S j) := fun j hj => (congrFun ((hK6.2 2 (by decide) (by decide) (by decide) (by decide)).trans ((by simp only [mdA_i (show (2 : Nat) ≠ 0 by decide)] : mdA (mdA (mdA A2 0 (225 + (2 * (S 2))) (nI p.toNatClampNeg)) 0 ((225 + (2 * (S 2))) + 1) (nI v.toNatClampNeg)) 0 2 (nI ((S 2) + 1)) 2 = _).trans (hK2.2 2 (by decide) (by decide) (by decide) (by decide)))) j).trans (h1.2 j hj)
            have hSn := hS6
            refine jv_calli (jv_runV (As := [.int (nI (tn (gA (asmS S p.toNatClampNeg v.toNatClampNeg))))]) (rest := []) X dX2_assume_119 (c_X2_changed hO (nI (tn (gA (asmS S p.toNatClampNeg v.toNatClampNeg)))) (zk z) hk8 hF4n (zH z) (fun i hi j hj => by rw [hAk 3 (by decide)]; exact hz.hi i hi j hj) S hAr) (lw_V q2100 q2102 qs40 q100 q2103) hd_X2_changed md_M_o rfl (Nat.le_of_ble_eq_true rfl) (Nat.le_of_ble_eq_true rfl) (Nat.le_of_ble_eq_true rfl) (Nat.le_of_ble_eq_true rfl) rfl (Nat.le_of_ble_eq_true rfl)) (fun r7 M_ h_ => ?_)
            obtain ⟨F7, A7, rfl, h7⟩ := h_
            exact jv_iret (v := r7) X dX2_assume_122 rfl hQ (Nat.le_of_ble_eq_true rfl) (Nat.le_of_ble_eq_true rfl) ⟨_, _, rfl, (by rw [m_assume, if_pos c13, if_pos c24, if_pos ((cI_m1 hok.2.2).mp c35), if_neg c48, if_neg (Bool.eq_false_iff.mp c56)]; exact ⟨h7.1, isZ.put2 hz hFk hAk hSn h7.2⟩)⟩
          · skip
            refine jv_bipush (v := (-3)) X dX2_assume_59 rfl ?_
            exact jv_iret (v := (-3)) X dX2_assume_61 rfl hQ (Nat.le_of_ble_eq_true rfl) (Nat.le_of_ble_eq_true rfl) ⟨_, _, rfl, (by rw [m_assume, if_pos c13, if_pos c24, if_pos ((cI_m1 hok.2.2).mp c35), if_neg c48, if_pos c56]; exact ⟨rfl, hz.scr (fun k e => (hK2.1 k (by omega) (by omega))) (fun k e => (hK2.2 k (by omega) (by omega) (by omega) (by omega)).trans (h1.1 k (by omega)))⟩)⟩
    · skip
      refine jv_bipush (v := (-2)) X dX2_assume_27 rfl ?_
      exact jv_iret (v := (-2)) X dX2_assume_29 rfl hQ (Nat.le_of_ble_eq_true rfl) (Nat.le_of_ble_eq_true rfl) ⟨_, _, rfl, (by rw [m_assume, if_pos c13, if_neg (Bool.eq_false_iff.mp c24)]; exact ⟨rfl, hz.scr (fun k e => (hK2.1 k (by omega) (by omega))) (fun k e => (hK2.2 k (by omega) (by omega) (by omega) (by omega)).trans (h1.1 k (by omega)))⟩)⟩
  · skip
    refine jv_iconst (v := (-1)) X dX2_assume_16 rfl ?_
    exact jv_iret (v := (-1)) X dX2_assume_17 rfl hQ (Nat.le_of_ble_eq_true rfl) (Nat.le_of_ble_eq_true rfl) ⟨_, _, rfl, (by rw [m_assume, if_neg (Bool.eq_false_iff.mp c13)]; exact ⟨rfl, hz.scr (fun k e => (hK2.1 k (by omega) (by omega))) (fun k e => (hK2.2 k (by omega) (by omega) (by omega) (by omega)).trans (h1.1 k (by omega)))⟩)⟩
theorem ite_cI {c : Nat} {α : Type} {u v : α} (h : c ≤ 6) : (if cI c = -1 then u else v) = if c = 6 then u else v := by
  by_cases e : c = 6
  · rw [if_pos e, if_pos ((cI_m1 h).mpr e)]
  · rw [if_neg e, if_neg (fun z => e ((cI_m1 h).mp z))]
theorem hd_X2_blamedOf : jv_dd yX2_blamedOf 0 := by unfold jv_dd; decide +kernel
set_option maxHeartbeats 4000000 in
theorem c_X2_blamedOf {l : Launch} {G : jv_G} {o : md_O} {F : Nat → Int32} {A : Nat → Nat → Int32} {S : Nat → Nat} (hO : md_K G o) (hS : ∀ j, j < 237 → A 0 j = nI (S j))  (hWs : wfS S) : jv_Ct G l yX2_blamedOf cX2_blamedOf 3 (some .int) 6 0 0 144 [.ref o.2.1] (md_M G o F A) (jv_qi G (fun r M' => ∃ F' A', M' = md_M G o F' A' ∧ r = blm S ∧ ktT F A F' A')) := by
  refine jv_Ct.of (lv := [(0, .ref o.2.1)]) (by decide) (Nat.le_of_ble_eq_true rfl) rfl ?_
  intro x Q_ hl_ hQ X
  subst hl_
  have hW := hWs.1
  have h2 := hW.a
  refine jv_iconst (v := nI 1) X dX2_blamedOf_0 rfl ?_
  refine jv_aload_n X dX2_blamedOf_1 0 rfl ?_
  refine jm_getA X dX2_blamedOf_2 0 (by decide) q2010 rfl ?_
  refine jv_iconst (v := nI 2) X dX2_blamedOf_5 rfl ?_
  refine jm_ld (v := nI (S 2)) X hO dX2_blamedOf_6 0 (by decide) (show 2 < 237 from (by omega)) (hS _ (by omega)) ?_
  refine jv_ishl (w := nI (2 ^ (S 2))) X dX2_blamedOf_7 (ni_shl1 (by omega)) ?_
  refine jv_iconst (v := nI 1) X dX2_blamedOf_8 rfl ?_
  refine jv_isub (w := nI ((2 ^ (S 2)) - 1)) X dX2_blamedOf_9 (pk_sub (Nat.two_pow_pos _)) ?_
  refine jv_istore_n (lv' := [(1, .int (nI ((2 ^ (S 2)) - 1))), (0, .ref o.2.1)]) X dX2_blamedOf_10 rfl (by decide) rfl ?_
  refine jv_iconst (v := nI 0) X dX2_blamedOf_11 rfl ?_
  refine jv_istore_n (lv' := [(2, .int (nI 0)), (1, .int (nI ((2 ^ (S 2)) - 1))), (0, .ref o.2.1)]) X dX2_blamedOf_12 rfl (by decide) rfl ?_
  have lp13_1 : ∀ (d_13 : Nat) (a : Nat) (w : Int32) (F1 : Nat → Int32) (A1 : Nat → Nat → Int32), a ≤ S 2 → (∀ j, j < 237 → A1 0 j = nI (S j)) → ktT F A F1 A1 → blmN S (S 2 - a) a w = blm S → S 2 - a < d_13 → jv_J x G 3 Q_ (md_M G o F1 A1) 0 0 13 [(0, .ref o.2.1), (1, .int w), (2, .int (nI a))] [] := by
    intro d_13
    induction d_13 with
    | zero => intro a w F1 A1 ha hS1 hK1 hf hm_13; exact absurd hm_13 (Nat.not_lt_zero _)
    | succ d_13 ih_13 =>
      intro a w F1 A1 ha hS1 hK1 hf hm_13
      refine jv_iload_n X dX2_blamedOf_13 2 rfl ?_
      refine jv_aload_n X dX2_blamedOf_14 0 rfl ?_
      refine jm_getA X dX2_blamedOf_15 0 (by decide) q2010 rfl ?_
      refine jv_iconst (v := nI 2) X dX2_blamedOf_18 rfl ?_
      refine jm_ld (v := nI (S 2)) X hO dX2_blamedOf_19 0 (by decide) (show 2 < 237 from (by omega)) (hS1 _ (by omega)) ?_
      refine jn_icmp_ge 61 X dX2_blamedOf_20 (by decide) (by omega) (by omega) (fun c20 => ?_) (fun c20 => ?_)
      · skip
        refine jv_iload_n X dX2_blamedOf_61 1 rfl ?_
        exact jv_iret (v := w) X dX2_blamedOf_62 rfl hQ (Nat.le_of_ble_eq_true rfl) (Nat.le_of_ble_eq_true rfl) ⟨_, _, rfl, ⟨by rw [← hf, show S 2 - a = 0 by omega]; rfl, hK1⟩⟩
      · skip
        refine jv_aload_n X dX2_blamedOf_23 0 rfl ?_
        refine jv_iload_n X dX2_blamedOf_24 1 rfl ?_
        refine jv_iconst (v := nI 1) X dX2_blamedOf_25 rfl ?_
        refine jv_iload_n X dX2_blamedOf_26 2 rfl ?_
        refine jv_ishl (w := nI (2 ^ a)) X dX2_blamedOf_27 (ni_shl1 (by omega)) ?_
        refine jv_iconst (v := (-1)) X dX2_blamedOf_28 rfl ?_
        refine jv_ixor (w := unv (2 ^ a)) X dX2_blamedOf_29 rfl ?_
        refine jv_iand (w := w &&& (unv (2 ^ a))) X dX2_blamedOf_30 rfl ?_
        refine jv_callv (jv_runV (As := [.int (w &&& (unv (2 ^ a)))]) (rest := []) X dX2_blamedOf_31 (c_X2_goes hO hS1 (w &&& (unv (2 ^ a))) hWs) (lw_V q2225 q2227 qs57 q100 q2228) hd_X2_goes md_M_o rfl (Nat.le_of_ble_eq_true rfl) (Nat.le_of_ble_eq_true rfl) (Nat.le_of_ble_eq_true rfl) (Nat.le_of_ble_eq_true rfl) rfl (Nat.le_of_ble_eq_true rfl)) (fun M_ h_ => ?_)
        obtain ⟨F2, A2, rfl, hT2, hK2⟩ := h_
        have hS2 := hK2.S hS1
        have hk2 := okT.got hW (w &&& (unv (2 ^ a)))
        skip
        have hokm := (okT.got hW (w &&& unv (2 ^ a))).2.2
        refine jv_iload_n X dX2_blamedOf_34 1 rfl ?_
        refine jv_aload_n X dX2_blamedOf_35 0 rfl ?_
        refine jm_getF (v := cI (tc (goT S (w &&& (unv (2 ^ a)))))) X dX2_blamedOf_36 17 (by decide) q2027 rfl hT2.2.1 ?_
        refine jv_iconst (v := (-1)) X dX2_blamedOf_39 rfl ?_
        have j53_3 : ∀ wm : Int32, wm = (if (cI (tc (goT S (w &&& (unv (2 ^ a)))))) = (-1) then (nI 63) else (unv (2 ^ a))) → jv_J x G 3 Q_ (md_M G o F2 A2) 0 0 53 [(0, .ref o.2.1), (1, .int w), (2, .int (nI a))] [.int wm, .int w] := by
          intro wm e_wm
          refine jv_iand (w := w &&& wm) X dX2_blamedOf_53 rfl ?_
          refine jv_istore_n (lv' := [(1, .int (w &&& wm)), (0, .ref o.2.1), (2, .int (nI a))]) X dX2_blamedOf_54 rfl (by decide) rfl ?_
          refine jv_iinc (v := nI (a + 1)) (lv' := [(2, .int (nI (a + 1))), (1, .int (w &&& wm)), (0, .ref o.2.1)]) X dX2_blamedOf_55 2 rfl (nI_1 _) (by decide) rfl ?_
          refine jv_goto 13 X dX2_blamedOf_58 (by decide) ?_
          refine jv_lv (lv' := [(0, .ref o.2.1), (1, .int (w &&& wm)), (2, .int (nI (a + 1)))]) [2, 1, 0] rfl ?_
          exact ih_13 (a + 1) (w &&& wm) F2 A2 (by omega) hS2 (hK1.tr hK2) (by rw [← hf, blmN_s (show 0 < S 2 - a by omega), show S 2 - a - 1 = S 2 - (a + 1) by omega, e_wm, ite_cI hokm]) (by omega)
        refine jv_icmp_ne 48 X dX2_blamedOf_40 (by decide) (fun c40 => ?_) (fun c40 => ?_)
        · skip
          refine jv_iconst (v := nI 1) X dX2_blamedOf_48 rfl ?_
          refine jv_iload_n X dX2_blamedOf_49 2 rfl ?_
          refine jv_ishl (w := nI (2 ^ a)) X dX2_blamedOf_50 (ni_shl1 (by omega)) ?_
          refine jv_iconst (v := (-1)) X dX2_blamedOf_51 rfl ?_
          refine jv_ixor (w := unv (2 ^ a)) X dX2_blamedOf_52 rfl ?_
          exact j53_3 _ (if_neg c40).symm
        · skip
          refine jv_bipush (v := nI 63) X dX2_blamedOf_43 rfl ?_
          refine jv_goto 53 X dX2_blamedOf_45 (by decide) ?_
          exact j53_3 _ (if_pos c40).symm
  refine jv_lv (lv' := [(0, .ref o.2.1), (1, .int (nI ((2 ^ (S 2)) - 1))), (2, .int (nI 0))]) [2, 1, 0] rfl ?_
  exact lp13_1 (S 2 + 1) 0 (nI (2 ^ S 2 - 1)) F A (Nat.zero_le _) hS ktT.rf rfl (by omega)
theorem hd_X2_blamed : jv_dd yX2_blamed 0 := by unfold jv_dd; decide +kernel
set_option maxHeartbeats 4000000 in
theorem c_X2_blamed {l : Launch} {G : jv_G} {o : md_O} {F : Nat → Int32} {A : Nat → Nat → Int32} {S : Nat → Nat} (hO : md_K G o) (hS : ∀ j, j < 237 → A 0 j = nI (S j))  (hWs : wfS S) : jv_Ct G l yX2_blamed cX2_blamed 1 (some .int) 7 0 0 166 [.ref o.2.1] (md_M G o F A) (jv_qi G (fun r M' => ∃ F' A', M' = md_M G o F' A' ∧ r = m_blamed S ∧ ktT F A F' A')) := by
  refine jv_Ct.of (lv := [(0, .ref o.2.1)]) (by decide) (Nat.le_of_ble_eq_true rfl) rfl ?_
  intro x Q_ hl_ hQ X
  subst hl_
  have hW := hWs.1
  have hok := okT.ga hW
  refine jv_aload_n X dX2_blamed_0 0 rfl ?_
  refine jv_callv (jv_runV (As := []) (rest := []) X dX2_blamed_1 (c_X2_goesAll hO hS hWs) (lw_V q2221 q2223 qs56 q100 q2224) hd_X2_goesAll md_M_o rfl (Nat.le_of_ble_eq_true rfl) (Nat.le_of_ble_eq_true rfl) (Nat.le_of_ble_eq_true rfl) (Nat.le_of_ble_eq_true rfl) rfl (Nat.le_of_ble_eq_true rfl)) (fun M_ h_ => ?_)
  obtain ⟨F1, A1, rfl, hT1, hK1⟩ := h_
  have hS1 := hK1.S hS
  have hk1 := okT.ga hW
  skip
  refine jv_aload_n X dX2_blamed_4 0 rfl ?_
  refine jm_getF (v := cI (tc (gA S))) X dX2_blamed_5 17 (by decide) q2027 rfl hT1.2.1 ?_
  refine jv_iconst (v := (-1)) X dX2_blamed_8 rfl ?_
  refine jv_icmp_ne 17 X dX2_blamed_9 (by decide) (fun c9 => ?_) (fun c9 => ?_)
  · skip
    refine jv_aload_n X dX2_blamed_17 0 rfl ?_
    refine jv_calli (jv_runV (As := []) (rest := []) X dX2_blamed_18 (c_X2_blamedOf hO hS1 hWs) (lw_V q2309 q2311 qs68 q100 q2312) hd_X2_blamedOf md_M_o rfl (Nat.le_of_ble_eq_true rfl) (Nat.le_of_ble_eq_true rfl) (Nat.le_of_ble_eq_true rfl) (Nat.le_of_ble_eq_true rfl) rfl (Nat.le_of_ble_eq_true rfl)) (fun r2 M_ h_ => ?_)
    obtain ⟨F2, A2, rfl, h2⟩ := h_
    have hS2 := h2.2.S hS1
    exact jv_iret (v := r2) X dX2_blamed_21 rfl hQ (Nat.le_of_ble_eq_true rfl) (Nat.le_of_ble_eq_true rfl) ⟨_, _, rfl, ⟨by rw [m_blamed, if_neg (fun e => c9 ((cI_m1 hok.2.2).mpr e)), h2.1], (hK1.tr h2.2)⟩⟩
  · skip
    refine jv_bipush (v := (-3)) X dX2_blamed_12 rfl ?_
    refine jv_goto 21 X dX2_blamed_14 (by decide) ?_
    exact jv_iret (v := (-3)) X dX2_blamed_21 rfl hQ (Nat.le_of_ble_eq_true rfl) (Nat.le_of_ble_eq_true rfl) ⟨_, _, rfl, ⟨by rw [m_blamed, if_pos ((cI_m1 hok.2.2).mp c9)], hK1⟩⟩
theorem hd_X2_learn : jv_dd yX2_learn 0 := by unfold jv_dd; decide +kernel
set_option maxHeartbeats 4000000 in
theorem c_X2_learn {l : Launch} {G : jv_G} {o : md_O} {F : Nat → Int32} {A : Nat → Nat → Int32} {S : Nat → Nat} (hO : md_K G o) (hS : ∀ j, j < 237 → A 0 j = nI (S j)) {z : t_Z} (hz : isZ F A z) (hk8 : zk z ≤ 8) (hWs : wfS S)   : jv_Ct G l yX2_learn cX2_learn 8 (some .int) 7 0 0 166 [.ref o.2.1] (md_M G o F A) (jv_qi G (fun r M' => ∃ F' A', M' = md_M G o F' A' ∧ r = (m_learn z S).1 ∧ isZ F' A' (m_learn z S).2)) := by
  refine jv_Ct.of (lv := [(0, .ref o.2.1)]) (by decide) (Nat.le_of_ble_eq_true rfl) rfl ?_
  intro x Q_ hl_ hQ X
  subst hl_
  have hW := hWs.1
  have hok := okT.ga hW
  have h2 := hW.a
  have hrr := hW.r
  refine jv_aload_n X dX2_learn_0 0 rfl ?_
  refine jv_callv (jv_runV (As := []) (rest := []) X dX2_learn_1 (c_X2_remembers hO hS) (lw_V q2096 q2098 qs39 q100 q2099) hd_X2_remembers md_M_o rfl (Nat.le_of_ble_eq_true rfl) (Nat.le_of_ble_eq_true rfl) (Nat.le_of_ble_eq_true rfl) (Nat.le_of_ble_eq_true rfl) rfl (Nat.le_of_ble_eq_true rfl)) (fun M_ h_ => ?_)
  obtain ⟨A1, rfl, h1⟩ := h_
  have hS1 : ∀ j, j < 237 → A1 0 j = nI (S j) := fun j hj => by rw [h1.1 0 (by decide)]; exact hS j hj
  refine jv_aload_n X dX2_learn_4 0 rfl ?_
  refine jv_callv (jv_runV (As := []) (rest := []) X dX2_learn_5 (c_X2_goesAll hO hS1 hWs) (lw_V q2221 q2223 qs56 q100 q2224) hd_X2_goesAll md_M_o rfl (Nat.le_of_ble_eq_true rfl) (Nat.le_of_ble_eq_true rfl) (Nat.le_of_ble_eq_true rfl) (Nat.le_of_ble_eq_true rfl) rfl (Nat.le_of_ble_eq_true rfl)) (fun M_ h_ => ?_)
  obtain ⟨F2, A2, rfl, hT2, hK2⟩ := h_
  have hS2 := hK2.S hS1
  have hk2 := okT.ga hW
  skip
  refine jv_aload_n X dX2_learn_8 0 rfl ?_
  refine jm_getF (v := cI (tc (gA S))) X dX2_learn_9 17 (by decide) q2027 rfl hT2.2.1 ?_
  refine jv_iconst (v := (-1)) X dX2_learn_12 rfl ?_
  refine jv_icmp_ne 20 X dX2_learn_13 (by decide) (fun c13 => ?_) (fun c13 => ?_)
  · skip
    refine jv_aload_n X dX2_learn_20 0 rfl ?_
    refine jv_calli (jv_runV (As := []) (rest := []) X dX2_learn_21 (c_X2_blamedOf hO hS2 hWs) (lw_V q2309 q2311 qs68 q100 q2312) hd_X2_blamedOf md_M_o rfl (Nat.le_of_ble_eq_true rfl) (Nat.le_of_ble_eq_true rfl) (Nat.le_of_ble_eq_true rfl) (Nat.le_of_ble_eq_true rfl) rfl (Nat.le_of_ble_eq_true rfl)) (fun r3 M_ h_ => ?_)
    obtain ⟨F3, A3, rfl, h3⟩ := h_
    have hS3 := h3.2.S hS2
    have hw : r3 = lrnW S := by rw [lrnW, if_neg (fun e => c13 ((cI_m1 hok.2.2).mpr e)), h3.1]
    refine jv_to (lv' := [(0, .ref o.2.1)]) (st' := [.int (lrnW S)]) rfl (by rw [hw]) ?_
    refine jv_istore_n (lv' := [(1, .int (lrnW S)), (0, .ref o.2.1)]) X dX2_learn_24 rfl (by decide) rfl ?_
    refine jv_iload_n X dX2_learn_25 0 rfl ?_
    refine jv_if_ne 32 X dX2_learn_26 (by decide) (fun c26 => ?_) (fun c26 => ?_)
    · skip
      refine jv_aload_n X dX2_learn_32 1 rfl ?_
      refine jm_getA X dX2_learn_33 0 (by decide) q2010 rfl ?_
      refine jv_iconst (v := nI 1) X dX2_learn_36 rfl ?_
      refine jm_ld (v := nI (S 1)) X hO dX2_learn_37 0 (by decide) (show 1 < 237 from (by omega)) (hS3 _ (by omega)) ?_
      refine jv_bipush (v := nI 30) X dX2_learn_38 rfl ?_
      refine jn_icmp_ne 46 X dX2_learn_40 (by decide) (by omega) (by decide) (fun c40 => ?_) (fun c40 => ?_)
      · skip
        refine jv_iconst (v := nI 0) X dX2_learn_46 rfl ?_
        refine jv_istore_n (lv' := [(2, .int (nI 0)), (1, .int (lrnW S)), (0, .ref o.2.1)]) X dX2_learn_47 rfl (by decide) rfl ?_
        refine jv_iconst (v := nI 0) X dX2_learn_48 rfl ?_
        refine jv_istore_n (lv' := [(3, .int (nI 0)), (2, .int (nI 0)), (1, .int (lrnW S)), (0, .ref o.2.1)]) X dX2_learn_49 rfl (by decide) rfl ?_
        refine jv_iconst (v := nI 0) X dX2_learn_50 rfl ?_
        refine jv_istore (lv' := [(4, .int (nI 0)), (3, .int (nI 0)), (2, .int (nI 0)), (1, .int (lrnW S)), (0, .ref o.2.1)]) X dX2_learn_51 (by decide) rfl ?_
        refine jv_iconst (v := nI 0) X dX2_learn_53 rfl ?_
        refine jv_istore (lv' := [(5, .int (nI 0)), (4, .int (nI 0)), (3, .int (nI 0)), (2, .int (nI 0)), (1, .int (lrnW S)), (0, .ref o.2.1)]) X dX2_learn_54 (by decide) rfl ?_
        have lp56_4 : ∀ (d_56 : Nat) (a : Nat) (l : Nat) (kp : Nat) (lt : Nat), a ≤ S 2 → lrn S (lrnW S) a = (l, kp, lt) → S 2 - a < d_56 → jv_J x G 8 Q_ (md_M G o F3 A3) 0 0 56 [(0, .ref o.2.1), (1, .int (lrnW S)), (2, .int (nI l)), (3, .int (nI kp)), (4, .int (nI lt)), (5, .int (nI a))] [] := by
          intro d_56
          induction d_56 with
          | zero => intro a l kp lt ha hf hm_56; exact absurd hm_56 (Nat.not_lt_zero _)
          | succ d_56 ih_56 =>
            intro a l kp lt ha hf hm_56
            refine jv_iload X dX2_learn_56 5 rfl ?_
            refine jv_aload_n X dX2_learn_58 0 rfl ?_
            refine jm_getA X dX2_learn_59 0 (by decide) q2010 rfl ?_
            refine jv_iconst (v := nI 2) X dX2_learn_62 rfl ?_
            refine jm_ld (v := nI (S 2)) X hO dX2_learn_63 0 (by decide) (show 2 < 237 from (by omega)) (hS3 _ (by omega)) ?_
            refine jn_icmp_ge 150 X dX2_learn_64 (by decide) (by omega) (by omega) (fun c64 => ?_) (fun c64 => ?_)
            · skip
              have h30 : S 1 < 30 := by have := hW.r; omega
              refine jv_aload_n X dX2_learn_150 0 rfl ?_
              refine jv_iconst (v := nI 3) X dX2_learn_151 rfl ?_
              refine jv_iconst (v := nI 0) X dX2_learn_152 rfl ?_
              refine jv_iconst (v := nI 0) X dX2_learn_153 rfl ?_
              refine jv_iconst (v := nI 0) X dX2_learn_154 rfl ?_
              refine jv_iconst (v := nI 0) X dX2_learn_155 rfl ?_
              refine jv_iload_n X dX2_learn_156 2 rfl ?_
              refine jv_calli (jv_runV (As := [.int (nI 3), .int (nI 0), .int (nI 0), .int (nI 0), .int (nI 0), .int (nI l)]) (rest := []) X dX2_learn_157 (c_X2_adds hO hS3 3 0 0 0 0 l h30) (lw_V q2173 q2175 qs50 q100 q2176) hd_X2_adds md_M_o rfl (Nat.le_of_ble_eq_true rfl) (Nat.le_of_ble_eq_true rfl) (Nat.le_of_ble_eq_true rfl) (Nat.le_of_ble_eq_true rfl) rfl (Nat.le_of_ble_eq_true rfl)) (fun r5 M_ h_ => ?_)
              obtain ⟨A5, rfl, h5⟩ := h_
              refine jv_pop X dX2_learn_160 rfl ?_
              refine jv_aload_n X dX2_learn_161 0 rfl ?_
              refine jm_getA X dX2_learn_162 0 (by decide) q2010 rfl ?_
              refine jv_iconst (v := nI 2) X dX2_learn_165 rfl ?_
              refine jv_iload_n X dX2_learn_166 3 rfl ?_
              refine jm_st (v := nI kp) X hO dX2_learn_167 0 (by decide) (show 2 < 237 from (by omega)) ?_
              have hS6 := mdA_S h5.2.2 2 kp
              have hfa : lrn S (lrnW S) (S 2) = (l, kp, lt) := by rw [← hf, show S 2 = a by omega]
              have hF4n : F3 4 = nI (zk z) := ((hK2.tr h3.2).1 4 (by decide) (by decide)).trans hz.kp
              have hFk : ∀ k, k = 5 ∨ k = 7 ∨ k = 8 ∨ k = 9 ∨ k = 11 → F3 k = F k := fun k e => (hK2.tr h3.2).1 k (by omega) (by omega)
              have hAm : ∀ i, i ≠ 0 → i ≠ 2 → i ≠ 12 → i ≠ 13 → i ≠ 14 → i ≠ 15 → mdA A5 0 2 (nI kp) i = A i := fun i a0 a2 a b c d => (by simp only [mdA_i a0] : mdA A5 0 2 (nI kp) i = _).trans ((h5.2.1 i a0).trans (((hK2.tr h3.2).2 i a b c d).trans (h1.1 i a2)))
              have hAk : ∀ i, i = 1 ∨ i = 3 ∨ i = 6 ∨ i = 10 → mdA A5 0 2 (nI kp) i = A i := fun i e => hAm i (by omega) (by omega) (by omega) (by omega) (by omega) (by omega)
              have hAr : ∀ j, j < 237 → mdA A5 0 2 (nI kp) 2 j = nI (S j) := fun j hj => (congrFun ((by simp only [mdA_i (show (2 : Nat) ≠ 0 by decide)] : mdA A5 0 2 (nI kp) 2 = _).trans ((h5.2.1 2 (by decide)).trans ((hK2.tr h3.2).2 2 (by decide) (by decide) (by decide) (by decide)))) j).trans (h1.2 j hj)
              have hSn : ∀ j, j < 237 → mdA A5 0 2 (nI kp) 0 j = nI (lrnS S (lrnW S) j) := by unfold lrnS; rw [hfa]; exact hS6
              refine jv_aload_n X dX2_learn_168 0 rfl ?_
              refine jv_iload_n X dX2_learn_169 3 rfl ?_
              refine jv_calli (jv_runV (As := [.int (nI kp)]) (rest := []) X dX2_learn_170 (c_X2_changed hO (nI kp) (zk z) hk8 hF4n (zH z) (fun i hi j hj => by rw [hAk 3 (by decide)]; exact hz.hi i hi j hj) S hAr) (lw_V q2100 q2102 qs40 q100 q2103) hd_X2_changed md_M_o rfl (Nat.le_of_ble_eq_true rfl) (Nat.le_of_ble_eq_true rfl) (Nat.le_of_ble_eq_true rfl) (Nat.le_of_ble_eq_true rfl) rfl (Nat.le_of_ble_eq_true rfl)) (fun r7 M_ h_ => ?_)
              obtain ⟨F7, A7, rfl, h7⟩ := h_
              exact jv_iret (v := r7) X dX2_learn_173 rfl hQ (Nat.le_of_ble_eq_true rfl) (Nat.le_of_ble_eq_true rfl) ⟨_, _, rfl, (by rw [m_learn, if_neg c26, if_neg c40, hfa]; exact ⟨h7.1, isZ.put2 hz hFk hAk hSn h7.2⟩)⟩
            · skip
              refine jv_iload_n X dX2_learn_67 1 rfl ?_
              refine jv_iload X dX2_learn_68 5 rfl ?_
              refine jv_ishr (w := (lrnW S) >>> ((nI a) &&& 31)) X dX2_learn_70 rfl ?_
              refine jv_iconst (v := nI 1) X dX2_learn_71 rfl ?_
              refine jv_iand (w := ((lrnW S) >>> ((nI a) &&& 31)) &&& (nI 1)) X dX2_learn_72 rfl ?_
              refine jv_iconst (v := nI 1) X dX2_learn_73 rfl ?_
              refine jv_icmp_ne 144 X dX2_learn_74 (by decide) (fun c74 => ?_) (fun c74 => ?_)
              · skip
                refine jv_iinc (v := nI (a + 1)) (lv' := [(5, .int (nI (a + 1))), (0, .ref o.2.1), (1, .int (lrnW S)), (2, .int (nI l)), (3, .int (nI kp)), (4, .int (nI lt))]) X dX2_learn_144 5 rfl (nI_1 _) (by decide) rfl ?_
                refine jv_goto 56 X dX2_learn_147 (by decide) ?_
                refine jv_lv (lv' := [(0, .ref o.2.1), (1, .int (lrnW S)), (2, .int (nI l)), (3, .int (nI kp)), (4, .int (nI lt)), (5, .int (nI (a + 1)))]) [1, 2, 3, 4, 5, 0] rfl ?_
                exact ih_56 (a + 1) l kp lt (by omega) (by rw [lrn, if_neg c74, hf]) (by omega)
              · skip
                have ha0 := hW.a0 (a := a) (by omega)
                have ha1 := hW.a1 (a := a) (by omega)
                refine jv_aload_n X dX2_learn_77 0 rfl ?_
                refine jm_getA X dX2_learn_78 0 (by decide) q2010 rfl ?_
                refine jv_sipush (v := nI 225) X dX2_learn_81 rfl ?_
                refine jv_iconst (v := nI 2) X dX2_learn_84 rfl ?_
                refine jv_iload X dX2_learn_85 5 rfl ?_
                refine jv_imul (w := nI (2 * a)) X dX2_learn_87 (pk_mul _ _) ?_
                refine jv_iadd (w := nI (225 + (2 * a))) X dX2_learn_88 (nI_add _ _) ?_
                refine jv_iconst (v := nI 1) X dX2_learn_89 rfl ?_
                refine jv_iadd (w := nI ((225 + (2 * a)) + 1)) X dX2_learn_90 (nI_add _ _) ?_
                refine jm_ld (v := nI (v_asm S a 1)) X hO dX2_learn_91 0 (by decide) (show ((225 + (2 * a)) + 1) < 237 from (by omega)) (hS3 _ (by omega)) ?_
                refine jv_iconst (v := nI 1) X dX2_learn_92 rfl ?_
                refine jv_iadd (w := nI ((v_asm S a 1) + 1)) X dX2_learn_93 (nI_add _ _) ?_
                refine jv_istore (lv' := [(6, .int (nI ((v_asm S a 1) + 1))), (0, .ref o.2.1), (1, .int (lrnW S)), (2, .int (nI l)), (3, .int (nI kp)), (4, .int (nI lt)), (5, .int (nI a))]) X dX2_learn_94 (by decide) rfl ?_
                refine jv_iconst (v := nI 0) X dX2_learn_96 rfl ?_
                refine jv_istore (lv' := [(7, .int (nI 0)), (6, .int (nI ((v_asm S a 1) + 1))), (0, .ref o.2.1), (1, .int (lrnW S)), (2, .int (nI l)), (3, .int (nI kp)), (4, .int (nI lt)), (5, .int (nI a))]) X dX2_learn_97 (by decide) rfl ?_
                have lp99_8 : ∀ (d_99 : Nat) (kk : Nat) (pl : Nat), kk ≤ v_asm S a 0 → pl = (v_asm S a 1 + 1) * 7 ^ kk → v_asm S a 0 - kk < d_99 → jv_J x G 8 Q_ (md_M G o F3 A3) 0 0 99 [(0, .ref o.2.1), (1, .int (lrnW S)), (2, .int (nI l)), (3, .int (nI kp)), (4, .int (nI lt)), (5, .int (nI a)), (6, .int (nI pl)), (7, .int (nI kk))] [] := by
                  intro d_99
                  induction d_99 with
                  | zero => intro kk pl hkk hpl hm_99; exact absurd hm_99 (Nat.not_lt_zero _)
                  | succ d_99 ih_99 =>
                    intro kk pl hkk hpl hm_99
                    refine jv_iload X dX2_learn_99 7 rfl ?_
                    refine jv_aload_n X dX2_learn_101 0 rfl ?_
                    refine jm_getA X dX2_learn_102 0 (by decide) q2010 rfl ?_
                    refine jv_sipush (v := nI 225) X dX2_learn_105 rfl ?_
                    refine jv_iconst (v := nI 2) X dX2_learn_108 rfl ?_
                    refine jv_iload X dX2_learn_109 5 rfl ?_
                    refine jv_imul (w := nI (2 * a)) X dX2_learn_111 (pk_mul _ _) ?_
                    refine jv_iadd (w := nI (225 + (2 * a))) X dX2_learn_112 (nI_add _ _) ?_
                    refine jm_ld (v := nI (v_asm S a 0)) X hO dX2_learn_113 0 (by decide) (show (225 + (2 * a)) < 237 from (by omega)) (hS3 _ (by omega)) ?_
                    refine jn_icmp_ge 130 X dX2_learn_114 (by decide) (by omega) (by omega) (fun c114 => ?_) (fun c114 => ?_)
                    · skip
                      refine jv_iload_n X dX2_learn_130 2 rfl ?_
                      refine jv_iload X dX2_learn_131 6 rfl ?_
                      refine jv_iadd (w := nI (l + pl)) X dX2_learn_133 (nI_add _ _) ?_
                      refine jv_istore_n (lv' := [(2, .int (nI (l + pl))), (0, .ref o.2.1), (1, .int (lrnW S)), (3, .int (nI kp)), (4, .int (nI lt)), (5, .int (nI a)), (6, .int (nI pl)), (7, .int (nI kk))]) X dX2_learn_134 rfl (by decide) rfl ?_
                      refine jv_iload X dX2_learn_135 4 rfl ?_
                      refine jv_istore_n (lv' := [(3, .int (nI lt)), (2, .int (nI (l + pl))), (0, .ref o.2.1), (1, .int (lrnW S)), (4, .int (nI lt)), (5, .int (nI a)), (6, .int (nI pl)), (7, .int (nI kk))]) X dX2_learn_137 rfl (by decide) rfl ?_
                      refine jv_iload X dX2_learn_138 5 rfl ?_
                      refine jv_iconst (v := nI 1) X dX2_learn_140 rfl ?_
                      refine jv_iadd (w := nI (a + 1)) X dX2_learn_141 (nI_add _ _) ?_
                      refine jv_istore (lv' := [(4, .int (nI (a + 1))), (3, .int (nI lt)), (2, .int (nI (l + pl))), (0, .ref o.2.1), (1, .int (lrnW S)), (5, .int (nI a)), (6, .int (nI pl)), (7, .int (nI kk))]) X dX2_learn_142 (by decide) rfl ?_
                      refine jv_iinc (v := nI (a + 1)) (lv' := [(5, .int (nI (a + 1))), (4, .int (nI (a + 1))), (3, .int (nI lt)), (2, .int (nI (l + pl))), (0, .ref o.2.1), (1, .int (lrnW S)), (6, .int (nI pl)), (7, .int (nI kk))]) X dX2_learn_144 5 rfl (nI_1 _) (by decide) rfl ?_
                      refine jv_goto 56 X dX2_learn_147 (by decide) ?_
                      refine jv_lv (lv' := [(0, .ref o.2.1), (1, .int (lrnW S)), (2, .int (nI (l + pl))), (3, .int (nI lt)), (4, .int (nI (a + 1))), (5, .int (nI (a + 1)))]) [4, 5, 3, 2, 1, 0] rfl ?_
                      exact ih_56 (a + 1) (l + pl) lt (a + 1) (by omega) (by rw [lrn, if_pos c74, hf, hpl, show kk = v_asm S a 0 by omega]) (by omega)
                    · skip
                      refine jv_iload X dX2_learn_117 6 rfl ?_
                      refine jv_bipush (v := nI 7) X dX2_learn_119 rfl ?_
                      refine jv_imul (w := nI (pl * 7)) X dX2_learn_121 (pk_mul _ _) ?_
                      refine jv_istore (lv' := [(6, .int (nI (pl * 7))), (0, .ref o.2.1), (1, .int (lrnW S)), (2, .int (nI l)), (3, .int (nI kp)), (4, .int (nI lt)), (5, .int (nI a)), (7, .int (nI kk))]) X dX2_learn_122 (by decide) rfl ?_
                      refine jv_iinc (v := nI (kk + 1)) (lv' := [(7, .int (nI (kk + 1))), (6, .int (nI (pl * 7))), (0, .ref o.2.1), (1, .int (lrnW S)), (2, .int (nI l)), (3, .int (nI kp)), (4, .int (nI lt)), (5, .int (nI a))]) X dX2_learn_124 7 rfl (nI_1 _) (by decide) rfl ?_
                      refine jv_goto 99 X dX2_learn_127 (by decide) ?_
                      refine jv_lv (lv' := [(0, .ref o.2.1), (1, .int (lrnW S)), (2, .int (nI l)), (3, .int (nI kp)), (4, .int (nI lt)), (5, .int (nI a)), (6, .int (nI (pl * 7))), (7, .int (nI (kk + 1)))]) [2, 3, 4, 5, 6, 7, 1, 0] rfl ?_
                      exact ih_99 (kk + 1) (pl * 7) (by omega) (by rw [hpl, Nat.pow_succ, Nat.mul_assoc]) (by omega)
                refine jv_lv (lv' := [(0, .ref o.2.1), (1, .int (lrnW S)), (2, .int (nI l)), (3, .int (nI kp)), (4, .int (nI lt)), (5, .int (nI a)), (6, .int (nI ((v_asm S a 1) + 1))), (7, .int (nI 0))]) [2, 3, 4, 5, 6, 7, 1, 0] rfl ?_
                exact lp99_8 (v_asm S a 0 + 1) 0 (v_asm S a 1 + 1) (Nat.zero_le _) (by rw [Nat.pow_zero, Nat.mul_one]) (by omega)
        refine jv_lv (lv' := [(0, .ref o.2.1), (1, .int (lrnW S)), (2, .int (nI 0)), (3, .int (nI 0)), (4, .int (nI 0)), (5, .int (nI 0))]) [5, 4, 3, 2, 1, 0] rfl ?_
        exact lp56_4 (S 2 + 1) 0 0 0 0 (Nat.zero_le _) rfl (by omega)
      · skip
        refine jv_bipush (v := (-4)) X dX2_learn_43 rfl ?_
        exact jv_iret (v := (-4)) X dX2_learn_45 rfl hQ (Nat.le_of_ble_eq_true rfl) (Nat.le_of_ble_eq_true rfl) ⟨_, _, rfl, (by rw [m_learn, if_neg c26, if_pos c40]; exact ⟨rfl, hz.scr (fun k e => ((hK2.tr h3.2).1 k (by omega) (by omega))) (fun k e => ((hK2.tr h3.2).2 k (by omega) (by omega) (by omega) (by omega)).trans (h1.1 k (by omega)))⟩)⟩
    · skip
      refine jv_bipush (v := (-3)) X dX2_learn_29 rfl ?_
      exact jv_iret (v := (-3)) X dX2_learn_31 rfl hQ (Nat.le_of_ble_eq_true rfl) (Nat.le_of_ble_eq_true rfl) ⟨_, _, rfl, (by rw [m_learn, if_pos c26]; exact ⟨rfl, hz.scr (fun k e => ((hK2.tr h3.2).1 k (by omega) (by omega))) (fun k e => ((hK2.tr h3.2).2 k (by omega) (by omega) (by omega) (by omega)).trans (h1.1 k (by omega)))⟩)⟩
  · skip
    refine jv_iconst (v := nI 0) X dX2_learn_16 rfl ?_
    refine jv_goto 24 X dX2_learn_17 (by decide) ?_
    refine jv_istore_n (lv' := [(1, .int (nI 0)), (0, .ref o.2.1)]) X dX2_learn_24 rfl (by decide) rfl ?_
    refine jv_iload_n X dX2_learn_25 0 rfl ?_
    refine jn_if_ne 32 X dX2_learn_26 (by decide) (by omega) (fun c26 => ?_) (fun c26 => ?_)
    · skip
      exact (absurd rfl c26)
    · skip
      refine jv_bipush (v := (-3)) X dX2_learn_29 rfl ?_
      exact jv_iret (v := (-3)) X dX2_learn_31 rfl hQ (Nat.le_of_ble_eq_true rfl) (Nat.le_of_ble_eq_true rfl) ⟨_, _, rfl, (by rw [m_learn, if_pos (show lrnW S = 0 by rw [lrnW, if_pos ((cI_m1 hok.2.2).mp c13)]; rfl)]; exact ⟨rfl, hz.scr (fun k e => (hK2.1 k (by omega) (by omega))) (fun k e => (hK2.2 k (by omega) (by omega) (by omega) (by omega)).trans (h1.1 k (by omega)))⟩)⟩
