/-! the component, first -/
set_option maxRecDepth 100000
theorem hd_X4_init : jv_dd yX4_init 3 := by unfold jv_dd; decide +kernel
set_option maxHeartbeats 4000000 in
theorem c_X4_init {l : Launch} {G : jv_G} {M : jv_M} {a : Nat} (ha : M a = some (.inr (4, [.int 0, .int 0, .int 0]))) (hf : G.1 ≤ a) (ma : Nat) (mi : Nat) (pr : Nat)  : jv_Ct G l yX4_init cX4_init 4 (none) 1 0 0 30 [.ref a, .int (nI ma), .int (nI mi), .int (nI pr)] M (jv_qv G (fun M' => M' = jv_up M a (.inr (4, [.int (nI ma), .int (nI mi), .int (nI pr)])))) := by
  refine jv_Ct.of (lv := [(0, .ref a), (1, .int (nI ma)), (2, .int (nI mi)), (3, .int (nI pr))]) (by decide) (Nat.le_of_ble_eq_true rfl) rfl ?_
  intro x Q_ hl_ hQ X
  subst hl_
  refine jv_aload_n X dX4_init_0 0 rfl ?_
  refine jv_obj0 X dX4_init_1 q551 (Nat.le_of_ble_eq_true rfl) (Nat.le_of_ble_eq_true rfl) ?_
  refine jv_aload_n X dX4_init_4 0 rfl ?_
  refine jv_iload_n X dX4_init_5 1 rfl ?_
  refine jv_putF (fs' := [.int (nI ma), .int 0, .int 0]) X dX4_init_6 ha hf (T := TX4) (N := 3) (C := RX4) rfl in_X4 tyX4 tyX4_ok nmX4 0 (by decide) q552 rfl rfl rfl rfl rfl rfl rfl (show 0 < 3 from by decide) rfl ?_
  refine jv_aload_n X dX4_init_9 0 rfl ?_
  refine jv_iload_n X dX4_init_10 2 rfl ?_
  refine jv_putF (fs' := [.int (nI ma), .int (nI mi), .int 0]) X dX4_init_11 jv_up_s hf (T := TX4) (N := 3) (C := RX4) rfl in_X4 tyX4 tyX4_ok nmX4 1 (by decide) q554 rfl rfl rfl rfl rfl rfl rfl (show 1 < 3 from by decide) rfl ?_
  rw [jv_up_up]
  refine jv_aload_n X dX4_init_14 0 rfl ?_
  refine jv_iload_n X dX4_init_15 3 rfl ?_
  refine jv_putF (fs' := [.int (nI ma), .int (nI mi), .int (nI pr)]) X dX4_init_16 jv_up_s hf (T := TX4) (N := 3) (C := RX4) rfl in_X4 tyX4 tyX4_ok nmX4 2 (by decide) q555 rfl rfl rfl rfl rfl rfl rfl (show 2 < 3 from by decide) rfl ?_
  rw [jv_up_up]
  exact jv_vret X dX4_init_19 hQ (Nat.le_of_ble_eq_true rfl) (Nat.le_of_ble_eq_true rfl) rfl
theorem hd_X4_init_2 : jv_dd yX4_init_2 1 := by unfold jv_dd; decide +kernel
set_option maxHeartbeats 4000000 in
theorem c_X4_init_2 {l : Launch} {G : jv_G} {M : jv_M} {a : Nat} (ha : M a = some (.inr (4, [.int 0, .int 0, .int 0]))) (hf : G.1 ≤ a) (r_ : Nat) (hr : r_ < 6000) : jv_Ct G l yX4_init_2 cX4_init_2 2 (none) 2 0 0 53 [.ref a, .int (nI r_)] M (jv_qv G (fun M' => M' = jv_up M a (.inr (4, [.int (nI (r_ % 1000 / 100)), .int (nI (r_ % 1000 / 10 % 10)), .int (nI (r_ % 1000 % 10))])))) := by
  refine jv_Ct.of (lv := [(0, .ref a), (1, .int (nI r_))]) (by decide) (Nat.le_of_ble_eq_true rfl) rfl ?_
  intro x Q_ hl_ hQ X
  subst hl_
  refine jv_aload_n X dX4_init_2_0 0 rfl ?_
  refine jv_iload_n X dX4_init_2_1 1 rfl ?_
  refine jv_bipush (v := nI 100) X dX4_init_2_2 rfl ?_
  refine jv_idiv (w := nI (r_ / 100)) X dX4_init_2_4 (ni_nz (by decide) (by decide)) (pk_div (by omega) (by decide) (by decide)) ?_
  refine jv_bipush (v := nI 10) X dX4_init_2_5 rfl ?_
  refine jv_irem (w := nI ((r_ / 100) % 10)) X dX4_init_2_7 (ni_nz (by decide) (by decide)) (pk_rem (by omega) (by decide) (by decide)) ?_
  refine jv_iload_n X dX4_init_2_8 1 rfl ?_
  refine jv_bipush (v := nI 10) X dX4_init_2_9 rfl ?_
  refine jv_idiv (w := nI (r_ / 10)) X dX4_init_2_11 (ni_nz (by decide) (by decide)) (pk_div (by omega) (by decide) (by decide)) ?_
  refine jv_bipush (v := nI 10) X dX4_init_2_12 rfl ?_
  refine jv_irem (w := nI ((r_ / 10) % 10)) X dX4_init_2_14 (ni_nz (by decide) (by decide)) (pk_rem (by omega) (by decide) (by decide)) ?_
  refine jv_iload_n X dX4_init_2_15 1 rfl ?_
  refine jv_bipush (v := nI 10) X dX4_init_2_16 rfl ?_
  refine jv_irem (w := nI (r_ % 10)) X dX4_init_2_18 (ni_nz (by decide) (by decide)) (pk_rem (by omega) (by decide) (by decide)) ?_
  refine jv_callv (jv_runI (As := [.int (nI ((r_ / 100) % 10)), .int (nI ((r_ / 10) % 10)), .int (nI (r_ % 10))]) (rest := []) X dX4_init_2_19 (c_X4_init ha hf ((r_ / 100) % 10) ((r_ / 10) % 10) (r_ % 10)) (lw_meth q550) q109 q659 q549 rfl hd_X4_init (Nat.le_of_ble_eq_true rfl) (Nat.le_of_ble_eq_true rfl) (Nat.le_of_ble_eq_true rfl) (Nat.le_of_ble_eq_true rfl) rfl (Nat.le_of_ble_eq_true rfl)) (fun M_ h_ => ?_)
  rw [h_]
  clear h_
  exact jv_vret X dX4_init_2_22 hQ (Nat.le_of_ble_eq_true rfl) (Nat.le_of_ble_eq_true rfl) (by rw [show r_ % 1000 / 100 = r_ / 100 % 10 by omega, show r_ % 1000 / 10 % 10 = r_ / 10 % 10 by omega, show r_ % 1000 % 10 = r_ % 10 by omega])
theorem hd_X4_isRelease : jv_dd yX4_isRelease 0 := by unfold jv_dd; decide +kernel
set_option maxHeartbeats 4000000 in
theorem c_X4_isRelease {l : Launch} {G : jv_G} {M : jv_M} {a c : Nat} (ha : jver M a c)   : jv_Ct G l yX4_isRelease cX4_isRelease 1 (some .boolean) 0 0 0 0 [.ref a] M (jv_qi G (jv_pi (bI (decide (c % 10 = 0))) M)) := by
  refine jv_Ct.of (lv := [(0, .ref a)]) (by decide) (Nat.le_of_ble_eq_true rfl) rfl ?_
  intro x Q_ hl_ hQ X
  subst hl_
  refine jv_aload_n X dX4_isRelease_0 0 rfl ?_
  refine jv_get X dX4_isRelease_1 ha (T := TX4) (N := 3) (C := RX4) rfl in_X4 2 (by decide) q555 rfl rfl ?_
  have j12_1 : ∀ w : Bool, w = (if (c % 10) = 0 then true else false) → jv_J x G 1 Q_ M 0 0 12 [(0, .ref a)] [.int (bI w)] := by
    intro w e_w
    exact jv_iret (v := bI w) X dX4_isRelease_12 (bI_nar _) hQ (Nat.le_of_ble_eq_true rfl) (Nat.le_of_ble_eq_true rfl) ⟨(by rw [e_w, ite_tf]), rfl⟩
  refine jn_if_ne 11 X dX4_isRelease_4 (by decide) (by omega) (fun c4 => ?_) (fun c4 => ?_)
  · skip
    refine jv_iconst (v := nI 0) X dX4_isRelease_11 rfl ?_
    exact j12_1 _ (if_neg c4).symm
  · skip
    refine jv_iconst (v := nI 1) X dX4_isRelease_7 rfl ?_
    refine jv_goto 12 X dX4_isRelease_8 (by decide) ?_
    exact j12_1 _ (if_pos c4).symm
theorem hd_X4_weight : jv_dd yX4_weight 0 := by unfold jv_dd; decide +kernel
set_option maxHeartbeats 4000000 in
theorem c_X4_weight {l : Launch} {G : jv_G} {M : jv_M} {a c : Nat} (ha : jver M a c)  (hc : c < 1000) : jv_Ct G l yX4_weight cX4_weight 1 (some .int) 1 0 0 20 [.ref a] M (jv_qi G (jv_pi (nI (v_order c)) M)) := by
  refine jv_Ct.of (lv := [(0, .ref a)]) (by decide) (Nat.le_of_ble_eq_true rfl) rfl ?_
  intro x Q_ hl_ hQ X
  subst hl_
  refine jv_bipush (v := nI 110) X dX4_weight_0 rfl ?_
  refine jv_aload_n X dX4_weight_2 0 rfl ?_
  refine jv_get X dX4_weight_3 ha (T := TX4) (N := 3) (C := RX4) rfl in_X4 0 (by decide) q552 rfl rfl ?_
  refine jv_imul (w := nI (110 * (c / 100))) X dX4_weight_6 (pk_mul _ _) ?_
  refine jv_bipush (v := nI 11) X dX4_weight_7 rfl ?_
  refine jv_aload_n X dX4_weight_9 0 rfl ?_
  refine jv_get X dX4_weight_10 ha (T := TX4) (N := 3) (C := RX4) rfl in_X4 1 (by decide) q554 rfl rfl ?_
  refine jv_imul (w := nI (11 * (c / 10 % 10))) X dX4_weight_13 (pk_mul _ _) ?_
  refine jv_iadd (w := nI ((110 * (c / 100)) + (11 * (c / 10 % 10)))) X dX4_weight_14 (nI_add _ _) ?_
  refine jv_aload_n X dX4_weight_15 0 rfl ?_
  refine jv_ask (jv_runV (As := []) (rest := [.int (nI ((110 * (c / 100)) + (11 * (c / 10 % 10))))]) X dX4_weight_16 (c_X4_isRelease (c := c) ha) (lw_V q582 q583 q584 q109 q585) hd_X4_isRelease ha rfl (Nat.le_of_ble_eq_true rfl) (Nat.le_of_ble_eq_true rfl) (Nat.le_of_ble_eq_true rfl) (Nat.le_of_ble_eq_true rfl) rfl (Nat.le_of_ble_eq_true rfl)) ?_
  have j31_1 : ∀ ww : Nat, ww = (if (decide (c % 10 = 0)) = true then 10 else (c % 10)) → jv_J x G 1 Q_ M 0 0 31 [(0, .ref a)] [.int (nI ww), .int (nI ((110 * (c / 100)) + (11 * (c / 10 % 10))))] := by
    intro ww e_ww
    refine jv_iadd (w := nI (((110 * (c / 100)) + (11 * (c / 10 % 10))) + ww)) X dX4_weight_31 (nI_add _ _) ?_
    exact jv_iret (v := nI (((110 * (c / 100)) + (11 * (c / 10 % 10))) + ww)) X dX4_weight_32 rfl hQ (Nat.le_of_ble_eq_true rfl) (Nat.le_of_ble_eq_true rfl) ⟨(congrArg nI (by rw [e_ww, v_order]; by_cases h : c % 10 = 0 <;> simp [h] <;> omega)), rfl⟩
  refine jb_if_eq 27 X dX4_weight_19 (by decide) (fun c19 => ?_) (fun c19 => ?_)
  · skip
    refine jv_aload_n X dX4_weight_27 0 rfl ?_
    refine jv_get X dX4_weight_28 ha (T := TX4) (N := 3) (C := RX4) rfl in_X4 2 (by decide) q555 rfl rfl ?_
    exact j31_1 _ (if_neg (Bool.eq_false_iff.mp c19)).symm
  · skip
    refine jv_bipush (v := nI 10) X dX4_weight_22 rfl ?_
    refine jv_goto 31 X dX4_weight_24 (by decide) ?_
    exact j31_1 _ (if_pos c19).symm
theorem hd_X4_isBefore : jv_dd yX4_isBefore 1 := by unfold jv_dd; decide +kernel
set_option maxHeartbeats 4000000 in
theorem c_X4_isBefore {l : Launch} {G : jv_G} {M : jv_M} {a c b d : Nat} (ha : jver M a c) (hb : jver M b d) (hc : c < 1000) (hd : d < 1000)   : jv_Ct G l yX4_isBefore cX4_isBefore 2 (some .boolean) 2 0 0 40 [.ref a, .ref b] M (jv_qi G (jv_pi (bI (decide (v_order c < v_order d))) M)) := by
  refine jv_Ct.of (lv := [(0, .ref a), (1, .ref b)]) (by decide) (Nat.le_of_ble_eq_true rfl) rfl ?_
  intro x Q_ hl_ hQ X
  subst hl_
  refine jv_aload_n X dX4_isBefore_0 0 rfl ?_
  refine jv_ask (jv_runV (As := []) (rest := []) X dX4_isBefore_1 (c_X4_weight (c := c) ha (by omega)) (lw_V q578 q580 qs9 q109 q581) hd_X4_weight ha rfl (Nat.le_of_ble_eq_true rfl) (Nat.le_of_ble_eq_true rfl) (Nat.le_of_ble_eq_true rfl) (Nat.le_of_ble_eq_true rfl) rfl (Nat.le_of_ble_eq_true rfl)) ?_
  refine jv_aload_n X dX4_isBefore_4 1 rfl ?_
  refine jv_ask (jv_runV (As := []) (rest := [.int (nI (v_order c))]) X dX4_isBefore_5 (c_X4_weight (c := d) hb (by omega)) (lw_V q578 q580 qs9 q109 q581) hd_X4_weight hb rfl (Nat.le_of_ble_eq_true rfl) (Nat.le_of_ble_eq_true rfl) (Nat.le_of_ble_eq_true rfl) (Nat.le_of_ble_eq_true rfl) rfl (Nat.le_of_ble_eq_true rfl)) ?_
  have j16_1 : ∀ w : Bool, w = (if (v_order d) ≤ (v_order c) then false else true) → jv_J x G 2 Q_ M 0 0 16 [(0, .ref a), (1, .ref b)] [.int (bI w)] := by
    intro w e_w
    exact jv_iret (v := bI w) X dX4_isBefore_16 (bI_nar _) hQ (Nat.le_of_ble_eq_true rfl) (Nat.le_of_ble_eq_true rfl) ⟨(by rw [e_w, ite_ge]), rfl⟩
  refine jn_icmp_ge 15 X dX4_isBefore_8 (by decide) (v_order_lt (by omega)) (v_order_lt (by omega)) (fun c8 => ?_) (fun c8 => ?_)
  · skip
    refine jv_iconst (v := nI 0) X dX4_isBefore_15 rfl ?_
    exact j16_1 _ (if_pos c8).symm
  · skip
    refine jv_iconst (v := nI 1) X dX4_isBefore_11 rfl ?_
    refine jv_goto 16 X dX4_isBefore_12 (by decide) ?_
    exact j16_1 _ (if_neg (Nat.not_le.mpr c8)).symm
theorem hd_X4_isSame : jv_dd yX4_isSame 1 := by unfold jv_dd; decide +kernel
set_option maxHeartbeats 4000000 in
theorem c_X4_isSame {l : Launch} {G : jv_G} {M : jv_M} {a c b d : Nat} (ha : jver M a c) (hb : jver M b d) (hc : c < 1000) (hd : d < 1000)   : jv_Ct G l yX4_isSame cX4_isSame 2 (some .boolean) 2 0 0 40 [.ref a, .ref b] M (jv_qi G (jv_pi (bI (decide (c = d))) M)) := by
  refine jv_Ct.of (lv := [(0, .ref a), (1, .ref b)]) (by decide) (Nat.le_of_ble_eq_true rfl) rfl ?_
  intro x Q_ hl_ hQ X
  subst hl_
  refine jv_aload_n X dX4_isSame_0 0 rfl ?_
  refine jv_ask (jv_runV (As := []) (rest := []) X dX4_isSame_1 (c_X4_weight (c := c) ha (by omega)) (lw_V q578 q580 qs9 q109 q581) hd_X4_weight ha rfl (Nat.le_of_ble_eq_true rfl) (Nat.le_of_ble_eq_true rfl) (Nat.le_of_ble_eq_true rfl) (Nat.le_of_ble_eq_true rfl) rfl (Nat.le_of_ble_eq_true rfl)) ?_
  refine jv_aload_n X dX4_isSame_4 1 rfl ?_
  refine jv_ask (jv_runV (As := []) (rest := [.int (nI (v_order c))]) X dX4_isSame_5 (c_X4_weight (c := d) hb (by omega)) (lw_V q578 q580 qs9 q109 q581) hd_X4_weight hb rfl (Nat.le_of_ble_eq_true rfl) (Nat.le_of_ble_eq_true rfl) (Nat.le_of_ble_eq_true rfl) (Nat.le_of_ble_eq_true rfl) rfl (Nat.le_of_ble_eq_true rfl)) ?_
  have j16_1 : ∀ w : Bool, w = (if (v_order c) = (v_order d) then true else false) → jv_J x G 2 Q_ M 0 0 16 [(0, .ref a), (1, .ref b)] [.int (bI w)] := by
    intro w e_w
    exact jv_iret (v := bI w) X dX4_isSame_16 (bI_nar _) hQ (Nat.le_of_ble_eq_true rfl) (Nat.le_of_ble_eq_true rfl) ⟨(by rw [e_w, ite_tf]; simp only [v_order_inj]), rfl⟩
  refine jn_icmp_ne 15 X dX4_isSame_8 (by decide) (v_order_lt (by omega)) (v_order_lt (by omega)) (fun c8 => ?_) (fun c8 => ?_)
  · skip
    refine jv_iconst (v := nI 0) X dX4_isSame_15 rfl ?_
    exact j16_1 _ (if_neg c8).symm
  · skip
    refine jv_iconst (v := nI 1) X dX4_isSame_11 rfl ?_
    refine jv_goto 16 X dX4_isSame_12 (by decide) ?_
    exact j16_1 _ (if_pos c8).symm
theorem hd_X4_isOfLine : jv_dd yX4_isOfLine 1 := by unfold jv_dd; decide +kernel
set_option maxHeartbeats 4000000 in
theorem c_X4_isOfLine {l : Launch} {G : jv_G} {M : jv_M} {a c b d : Nat} (ha : jver M a c) (hb : jver M b d) (hc : c < 1000) (hd : d < 1000)   : jv_Ct G l yX4_isOfLine cX4_isOfLine 2 (some .boolean) 0 0 0 0 [.ref a, .ref b] M (jv_qi G (jv_pi (bI (decide (c / 10 = d / 10))) M)) := by
  refine jv_Ct.of (lv := [(0, .ref a), (1, .ref b)]) (by decide) (Nat.le_of_ble_eq_true rfl) rfl ?_
  intro x Q_ hl_ hQ X
  subst hl_
  refine jv_aload_n X dX4_isOfLine_0 0 rfl ?_
  refine jv_get X dX4_isOfLine_1 ha (T := TX4) (N := 3) (C := RX4) rfl in_X4 0 (by decide) q552 rfl rfl ?_
  refine jv_aload_n X dX4_isOfLine_4 1 rfl ?_
  refine jv_get X dX4_isOfLine_5 hb (T := TX4) (N := 3) (C := RX4) rfl in_X4 0 (by decide) q552 rfl rfl ?_
  have j27_1 : ∀ w : Bool, w = (if (c / 100) = (d / 100) then (if (c / 10 % 10) = (d / 10 % 10) then true else false) else false) → jv_J x G 2 Q_ M 0 0 27 [(0, .ref a), (1, .ref b)] [.int (bI w)] := by
    intro w e_w
    exact jv_iret (v := bI w) X dX4_isOfLine_27 (bI_nar _) hQ (Nat.le_of_ble_eq_true rfl) (Nat.le_of_ble_eq_true rfl) ⟨(by rw [e_w]; by_cases h1 : c / 100 = d / 100 <;> by_cases h2 : c / 10 % 10 = d / 10 % 10 <;> simp [h1, h2, ← line_iff]), rfl⟩
  refine jn_icmp_ne 26 X dX4_isOfLine_8 (by decide) (by omega) (by omega) (fun c8 => ?_) (fun c8 => ?_)
  · skip
    refine jv_iconst (v := nI 0) X dX4_isOfLine_26 rfl ?_
    exact j27_1 _ (if_neg c8).symm
  · skip
    refine jv_aload_n X dX4_isOfLine_11 0 rfl ?_
    refine jv_get X dX4_isOfLine_12 ha (T := TX4) (N := 3) (C := RX4) rfl in_X4 1 (by decide) q554 rfl rfl ?_
    refine jv_aload_n X dX4_isOfLine_15 1 rfl ?_
    refine jv_get X dX4_isOfLine_16 hb (T := TX4) (N := 3) (C := RX4) rfl in_X4 1 (by decide) q554 rfl rfl ?_
    refine jn_icmp_ne 26 X dX4_isOfLine_19 (by decide) (by omega) (by omega) (fun c19 => ?_) (fun c19 => ?_)
    · skip
      refine jv_iconst (v := nI 0) X dX4_isOfLine_26 rfl ?_
      exact j27_1 _ ((if_pos c8).trans (if_neg c19)).symm
    · skip
      refine jv_iconst (v := nI 1) X dX4_isOfLine_22 rfl ?_
      refine jv_goto 27 X dX4_isOfLine_23 (by decide) ?_
      exact j27_1 _ ((if_pos c8).trans (if_pos c19)).symm
theorem hd_X4_number : jv_dd yX4_number 1 := by unfold jv_dd; decide +kernel
set_option maxHeartbeats 4000000 in
theorem c_X4_number {l : Launch} {G : jv_G} {M : jv_M} {a c : Nat} (ha : jver M a c) (what : Nat) (hw : what < 3) : jv_Ct G l yX4_number cX4_number 2 (some .int) 0 0 0 0 [.ref a, .int (nI what)] M (jv_qi G (jv_pi (nI (if what = 0 then c / 100 else if what = 1 then c / 10 % 10 else c % 10)) M)) := by
  refine jv_Ct.of (lv := [(0, .ref a), (1, .int (nI what))]) (by decide) (Nat.le_of_ble_eq_true rfl) rfl ?_
  intro x Q_ hl_ hQ X
  subst hl_
  refine jv_iload_n X dX4_number_0 1 rfl ?_
  have j27_1 : ∀ w : Nat, w = (if what = 0 then (c / 100) else (if what = 1 then (c / 10 % 10) else (c % 10))) → jv_J x G 2 Q_ M 0 0 27 [(0, .ref a), (1, .int (nI what))] [.int (nI w)] := by
    intro w e_w
    exact jv_iret (v := nI w) X dX4_number_27 rfl hQ (Nat.le_of_ble_eq_true rfl) (Nat.le_of_ble_eq_true rfl) ⟨(by rw [e_w]), rfl⟩
  refine jn_if_ne 11 X dX4_number_1 (by decide) (by omega) (fun c1 => ?_) (fun c1 => ?_)
  · skip
    refine jv_iload_n X dX4_number_11 1 rfl ?_
    refine jv_iconst (v := nI 1) X dX4_number_12 rfl ?_
    refine jn_icmp_ne 23 X dX4_number_13 (by decide) (by omega) (by decide) (fun c13 => ?_) (fun c13 => ?_)
    · skip
      refine jv_aload_n X dX4_number_23 0 rfl ?_
      refine jv_get X dX4_number_24 ha (T := TX4) (N := 3) (C := RX4) rfl in_X4 2 (by decide) q555 rfl rfl ?_
      exact j27_1 _ ((if_neg c1).trans (if_neg c13)).symm
    · skip
      refine jv_aload_n X dX4_number_16 0 rfl ?_
      refine jv_get X dX4_number_17 ha (T := TX4) (N := 3) (C := RX4) rfl in_X4 1 (by decide) q554 rfl rfl ?_
      refine jv_goto 27 X dX4_number_20 (by decide) ?_
      exact j27_1 _ ((if_neg c1).trans (if_pos c13)).symm
  · skip
    refine jv_aload_n X dX4_number_4 0 rfl ?_
    refine jv_get X dX4_number_5 ha (T := TX4) (N := 3) (C := RX4) rfl in_X4 0 (by decide) q552 rfl rfl ?_
    refine jv_goto 27 X dX4_number_8 (by decide) ?_
    exact j27_1 _ (if_pos c1).symm
