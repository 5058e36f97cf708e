/-! the component, third -/
set_option maxRecDepth 100000
theorem bef_s {a b : Nat} : (if decide (a < b) = true then 1 else 0) = (if b ≤ a then 0 else 1) := by
  by_cases h : b ≤ a
  · rw [if_pos h, if_neg]; simp; omega
  · rw [if_neg h, if_pos]; simp; omega
theorem hn_t {i n : Nat} (h : (if i = n then false else true) = true) : i ≠ n := fun z => by rw [if_pos z] at h; cases h
theorem hn_f {i n : Nat} (h : (if i = n then false else true) = false) : i = n := Classical.byContradiction fun z => by rw [if_neg z] at h; cases h
theorem isIn_t {op c r : Nat} (ho : op ≤ 1) : (if sKd (r / 1000) c (r % 1000) (decide (v_order c < v_order (r % 1000))) = true then (if decide (c % 10 = 0) = true then true else (if op = 0 then (if (!decide (r / 1000 = 0) && !decide (r % 1000 % 10 = 0) && decide (c / 10 = r % 1000 / 10)) = true then true else false) else true)) else false) = sIn op c r := by
  unfold sIn sOp
  cases sKd (r / 1000) c (r % 1000) (decide (v_order c < v_order (r % 1000)))
  · rfl
  · generalize (!decide (r / 1000 = 0) && !decide (r % 1000 % 10 = 0) && decide (c / 10 = r % 1000 / 10)) = X
    rcases (by omega : op = 0 ∨ op = 1) with h | h <;> by_cases h2 : c % 10 = 0 <;> cases X <;> simp [h, h2]
theorem hd_X3_isIn : jv_dd yX3_isIn 2 := by unfold jv_dd; decide +kernel
set_option maxHeartbeats 4000000 in
theorem c_X3_isIn {l : Launch} {G : jv_G} {M : jv_M} {a c b lv op : Nat} (ha : jver M a c) (hc : c < 1000) (hb : M b = some (.inr (3, [.ref lv, .int (nI op)]))) (ho : op ≤ 1) (r_ : Nat) (hr : r_ < 6000) : jv_Ct G l yX3_isIn cX3_isIn 3 (some .boolean) 4 2 6 96 [.ref b, .ref a, .int (nI r_)] M (jv_qi G (jv_pi (bI (sIn op c r_)) M)) := by
  refine jv_Ct.of (lv := [(0, .ref b), (1, .ref a), (2, .int (nI r_))]) (by decide) (Nat.le_of_ble_eq_true rfl) rfl ?_
  intro x Q_ hl_ hQ X
  subst hl_
  refine jv_aload_n X dX3_isIn_0 1 rfl ?_
  refine jv_iload_n X dX3_isIn_1 2 rfl ?_
  refine jv_ask (jv_runSN (As := [.ref a, .int (nI r_)]) (rest := []) X dX3_isIn_2 (c_X0_satisfies (c := c) ha.c (by omega) r_ (by omega)) (lw_meth q655) q653 q90 q654 hd_X0_satisfies (Nat.le_of_ble_eq_true rfl) (Nat.le_of_ble_eq_true rfl) (by omega) (by omega) rfl (Nat.le_of_ble_eq_true rfl)) ?_
  have j35_1 : ∀ w : Bool, w = (if (sKd (r_ / 1000) c (r_ % 1000) (decide (v_order c < v_order (r_ % 1000)))) = true then (if (decide (c % 10 = 0)) = true then true else (if op = 0 then (if (!decide (r_ / 1000 = 0) && !decide (r_ % 1000 % 10 = 0) && decide (c / 10 = r_ % 1000 / 10)) = true then true else false) else true)) else false) → jv_J x G 3 Q_ M 2 6 35 [(0, .ref b), (1, .ref a), (2, .int (nI r_))] [.int (bI w)] := by
    intro w e_w
    exact jv_iret (v := bI w) X dX3_isIn_35 (bI_nar _) hQ (Nat.le_of_ble_eq_true rfl) (Nat.le_of_ble_eq_true rfl) ⟨(congrArg bI (e_w.trans (isIn_t ho))), rfl⟩
  refine jb_if_eq 34 X dX3_isIn_5 (by decide) (fun c5 => ?_) (fun c5 => ?_)
  · skip
    refine jv_iconst (v := nI 0) X dX3_isIn_34 rfl ?_
    exact jv_widen (k' := 2) (n' := 6) (Nat.le_of_ble_eq_true rfl) (Nat.le_of_ble_eq_true rfl) (j35_1 _ (if_neg (Bool.eq_false_iff.mp c5)).symm)
  · skip
    refine jv_aload_n X dX3_isIn_8 1 rfl ?_
    refine jv_ask (jv_runV (As := []) (rest := []) X dX3_isIn_9 (c_X4_isRelease (c := c) ha.c) (lw_V q666 q583 q584 q109 q585) hd_X4_isRelease ha.c rfl (Nat.le_of_ble_eq_true rfl) (Nat.le_of_ble_eq_true rfl) (by omega) (by omega) rfl (Nat.le_of_ble_eq_true rfl)) ?_
    refine jb_if_ne 30 X dX3_isIn_12 (by decide) (fun c12 => ?_) (fun c12 => ?_)
    · skip
      refine jv_iconst (v := nI 1) X dX3_isIn_30 rfl ?_
      refine jv_goto 35 X dX3_isIn_31 (by decide) ?_
      exact jv_widen (k' := 2) (n' := 6) (Nat.le_of_ble_eq_true rfl) (Nat.le_of_ble_eq_true rfl) (j35_1 _ ((if_pos c5).trans (if_pos c12)).symm)
    · skip
      refine jv_aload_n X dX3_isIn_15 0 rfl ?_
      refine jv_get X dX3_isIn_16 hb (T := TX3) (N := 2) (C := RX3) rfl in_X3 1 (by decide) q355 rfl rfl ?_
      refine jn_if_ne 30 X dX3_isIn_19 (by decide) (by omega) (fun c19 => ?_) (fun c19 => ?_)
      · skip
        refine jv_iconst (v := nI 1) X dX3_isIn_30 rfl ?_
        refine jv_goto 35 X dX3_isIn_31 (by decide) ?_
        exact jv_widen (k' := 2) (n' := 6) (Nat.le_of_ble_eq_true rfl) (Nat.le_of_ble_eq_true rfl) (j35_1 _ (((if_pos c5).trans (if_neg (Bool.eq_false_iff.mp c12))).trans (if_neg c19)).symm)
      · skip
        refine jv_aload_n X dX3_isIn_22 1 rfl ?_
        refine jv_iload_n X dX3_isIn_23 2 rfl ?_
        refine jv_ask (jv_runSN (As := [.ref a, .int (nI r_)]) (rest := []) X dX3_isIn_24 (c_X0_namesLine (c := c) ha.c (by omega) r_ (by omega)) (lw_meth q669) q667 q90 q668 hd_X0_namesLine (Nat.le_of_ble_eq_true rfl) (Nat.le_of_ble_eq_true rfl) (by omega) (by omega) rfl (Nat.le_of_ble_eq_true rfl)) ?_
        refine jb_if_eq 34 X dX3_isIn_27 (by decide) (fun c27 => ?_) (fun c27 => ?_)
        · skip
          refine jv_iconst (v := nI 0) X dX3_isIn_34 rfl ?_
          exact j35_1 _ ((((if_pos c5).trans (if_neg (Bool.eq_false_iff.mp c12))).trans (if_pos c19)).trans (if_neg (Bool.eq_false_iff.mp c27))).symm
        · skip
          refine jv_iconst (v := nI 1) X dX3_isIn_30 rfl ?_
          refine jv_goto 35 X dX3_isIn_31 (by decide) ?_
          exact j35_1 _ ((((if_pos c5).trans (if_neg (Bool.eq_false_iff.mp c12))).trans (if_pos c19)).trans (if_pos c27)).symm
theorem hd_X3_covers : jv_dd yX3_covers 1 := by unfold jv_dd; decide +kernel
set_option maxHeartbeats 4000000 in
theorem c_X3_covers {l : Launch} {G : jv_G} {M : jv_M} {τ : Nat → Nat} {t b p : Nat} {S : Nat → Nat} (hp : jpack G M τ t b S p) (hW : wfB S) (hp6 : p < 6) (r_ : Nat) (hr : r_ < 6000) : jv_Ct G l yX3_covers cX3_covers 4 (some .int) 5 10 30 118 [.ref b, .int (nI r_)] M (jv_qi G (jv_pi (nI (cov S p r_)) M)) := by
  refine jv_Ct.of (lv := [(0, .ref b), (1, .int (nI r_))]) (by decide) (Nat.le_of_ble_eq_true rfl) rfl ?_
  intro x Q_ hl_ hQ X
  subst hl_
  obtain ⟨lv, V, hb, hfb, ⟨mc_, e, f, hl, he, hn5, hf, -, -, -⟩, hv⟩ := hp
  have ho := hW.op hp6
  have hnv := hW.nv hp6
  refine jv_iconst (v := nI 0) X dX3_covers_0 rfl ?_
  refine jv_istore_n (lv' := [(2, .int (nI 0)), (0, .ref b), (1, .int (nI r_))]) X dX3_covers_1 rfl (by decide) rfl ?_
  refine jv_iconst (v := nI 0) X dX3_covers_2 rfl ?_
  refine jv_istore_n (lv' := [(3, .int (nI 0)), (2, .int (nI 0)), (0, .ref b), (1, .int (nI r_))]) X dX3_covers_3 rfl (by decide) rfl ?_
  have lp4_1 : ∀ (d_4 : Nat) (v : Nat) (w : Nat), v ≤ v_of S p 0 → w = covN S p r_ v → v_of S p 0 - v < d_4 → jv_J x G 4 Q_ M (2 * v) (6 * v) 4 [(0, .ref b), (1, .int (nI r_)), (2, .int (nI w)), (3, .int (nI v))] [] := by
    intro d_4
    induction d_4 with
    | zero => intro v w hv5 hw hm_4; exact absurd hm_4 (Nat.not_lt_zero _)
    | succ d_4 ih_4 =>
      intro v w hv5 hw hm_4
      refine jv_iload_n X dX3_covers_4 3 rfl ?_
      refine jv_aload_n X dX3_covers_5 0 rfl ?_
      refine jv_get X dX3_covers_6 hb (T := TX3) (N := 2) (C := RX3) rfl in_X3 0 (by decide) q352 rfl rfl ?_
      refine jv_ask (jv_runV (As := []) (rest := [.int (nI v)]) X dX3_covers_9 (c_J2_size hl) (lw_V q648 q284 q285 q94 q286) hd_J2_size hl rfl (Nat.le_of_ble_eq_true rfl) (Nat.le_of_ble_eq_true rfl) (by omega) (by omega) rfl (Nat.le_of_ble_eq_true rfl)) ?_
      refine jn_icmp_ge 50 X dX3_covers_12 (by decide) (by omega) (by omega) (fun c12 => ?_) (fun c12 => ?_)
      · skip
        refine jv_iload_n X dX3_covers_50 2 rfl ?_
        exact jv_iret (v := nI w) X dX3_covers_51 rfl hQ (by omega) (by omega) ⟨(by rw [hw, show v = v_of S p 0 by omega]; rfl), rfl⟩
      · skip
        refine jv_iload_n X dX3_covers_15 2 rfl ?_
        refine jv_aload_n X dX3_covers_16 0 rfl ?_
        refine jv_aload_n X dX3_covers_17 0 rfl ?_
        refine jv_get X dX3_covers_18 hb (T := TX3) (N := 2) (C := RX3) rfl in_X3 0 (by decide) q352 rfl rfl ?_
        refine jv_iload_n X dX3_covers_21 3 rfl ?_
        refine jv_callr (jv_runV (As := [.int (nI v)]) (rest := [.ref b, .int (nI w)]) X dX3_covers_22 (c_J2_get hl he v (V v) (by omega) (by omega) (by omega) (by rw [hf _ (by omega)]; rfl)) (lw_V q612 q533 q534 q94 q535) hd_J2_get hl rfl (Nat.le_of_ble_eq_true rfl) (Nat.le_of_ble_eq_true rfl) (by omega) (by omega) rfl (Nat.le_of_ble_eq_true rfl)) (fun rr_ M_ h_ => ?_)
        obtain ⟨hr_, hm_⟩ := h_
        rw [hr_, hm_]
        clear hr_ hm_
        have hvr__3 := hW.vr hp6 (v := v) (by omega)
        refine jv_castS X dX3_covers_25 (hv v (by omega)).1.c (r := (RX4, TX4, 3)) rfl q573 ?_
        refine jv_iload_n X dX3_covers_28 1 rfl ?_
        refine jv_ask (jv_runV (As := [.ref (V v), .int (nI r_)]) (rest := [.int (nI w)]) X dX3_covers_29 (c_X3_isIn (c := v_of S p (2 + v)) ((hv v (by omega)).1.c) (by omega) hb (by omega) r_ (by omega)) (lw_V q649 q650 q651 q102 q652) hd_X3_isIn hb rfl (Nat.le_of_ble_eq_true rfl) (Nat.le_of_ble_eq_true rfl) (by omega) (by omega) rfl (Nat.le_of_ble_eq_true rfl)) ?_
        have j42_4 : ∀ wx : Nat, wx = (if (sIn (v_of S p 1) (v_of S p (2 + v)) r_) = true then (2 ^ v) else 0) → jv_J x G 4 Q_ M (2 * v + 2) (6 * v + 6) 42 [(0, .ref b), (1, .int (nI r_)), (2, .int (nI w)), (3, .int (nI v))] [.int (nI wx), .int (nI w)] := by
          intro wx e_wx
          refine jv_ior (w := nI (w ||| wx)) X dX3_covers_42 (ni_or _ _) ?_
          refine jv_istore_n (lv' := [(2, .int (nI (w ||| wx))), (0, .ref b), (1, .int (nI r_)), (3, .int (nI v))]) X dX3_covers_43 rfl (by decide) rfl ?_
          refine jv_iinc (v := nI (v + 1)) (lv' := [(3, .int (nI (v + 1))), (2, .int (nI (w ||| wx))), (0, .ref b), (1, .int (nI r_))]) X dX3_covers_44 3 rfl (nI_1 _) (by decide) rfl ?_
          refine jv_goto 4 X dX3_covers_47 (by decide) ?_
          refine jv_lv (lv' := [(0, .ref b), (1, .int (nI r_)), (2, .int (nI (w ||| wx))), (3, .int (nI (v + 1)))]) [2, 3, 1, 0] rfl ?_
          exact jv_widen (by omega) (by omega) (ih_4 (v + 1) (w ||| wx) (by omega) (by rw [hw, e_wx]; rfl) (by omega))
        refine jb_if_eq 41 X dX3_covers_32 (by decide) (fun c32 => ?_) (fun c32 => ?_)
        · skip
          refine jv_iconst (v := nI 0) X dX3_covers_41 rfl ?_
          exact j42_4 _ (if_neg (Bool.eq_false_iff.mp c32)).symm
        · skip
          refine jv_iconst (v := nI 1) X dX3_covers_35 rfl ?_
          refine jv_iload_n X dX3_covers_36 3 rfl ?_
          refine jv_ishl (w := nI (2 ^ v)) X dX3_covers_37 (ni_shl1 (by omega)) ?_
          refine jv_goto 42 X dX3_covers_38 (by decide) ?_
          exact j42_4 _ (if_pos c32).symm
  refine jv_lv (lv' := [(0, .ref b), (1, .int (nI r_)), (2, .int (nI 0)), (3, .int (nI 0))]) [2, 3, 1, 0] rfl ?_
  exact jv_widen (Nat.zero_le _) (Nat.zero_le _) (lp4_1 (v_of S p 0 + 1) 0 0 (Nat.zero_le _) rfl (by omega))
theorem hd_X3_placeOf : jv_dd yX3_placeOf 1 := by unfold jv_dd; decide +kernel
set_option maxHeartbeats 4000000 in
theorem c_X3_placeOf {l : Launch} {G : jv_G} {M : jv_M} {σ : jk_A} (hG : jk_G G σ) {τ : Nat → Nat} {t b p : Nat} {S : Nat → Nat} (hp : jpack G M τ t b S p) (hW : wfB S) (hp6 : p < 6) (v : Nat) (hv1 : v < v_of S p 0) : jv_Ct G l yX3_placeOf cX3_placeOf 5 (some .int) 3 1 4 71 [.ref b, .int (nI v)] M (jv_qi G (jv_pi (nI (bef S p v)) M)) := by
  refine jv_Ct.of (lv := [(0, .ref b), (1, .int (nI v))]) (by decide) (Nat.le_of_ble_eq_true rfl) rfl ?_
  intro x Q_ hl_ hQ X
  subst hl_
  obtain ⟨lv, V, hb, hfb, ⟨mc_, e, f, hl, he, hn5, hf, -, -, -⟩, hv⟩ := hp
  have ho := hW.op hp6
  have hnv := hW.nv hp6
  refine jv_iconst (v := nI 0) X dX3_placeOf_0 rfl ?_
  refine jv_istore_n (lv' := [(2, .int (nI 0)), (0, .ref b), (1, .int (nI v))]) X dX3_placeOf_1 rfl (by decide) rfl ?_
  refine jv_aload_n X dX3_placeOf_2 1 rfl ?_
  refine jv_get X dX3_placeOf_3 hb (T := TX3) (N := 2) (C := RX3) rfl in_X3 0 (by decide) q352 rfl rfl ?_
  refine jv_callr (jv_runV (As := []) (rest := []) X dX3_placeOf_6 (c_J2_iterator hl) (lw_V q568 q294 q295 q94 q296) hd_J2_iterator hl rfl (Nat.le_of_ble_eq_true rfl) (Nat.le_of_ble_eq_true rfl) (by omega) (by omega) rfl (Nat.le_of_ble_eq_true rfl)) (fun q_1 M_ h_ => ?_)
  obtain ⟨hnq_1, hbq_1, hm_⟩ := h_
  rw [hm_]
  clear hm_
  refine jv_astore_n (lv' := [(3, .ref q_1), (2, .int (nI 0)), (0, .ref b), (1, .int (nI v))]) X dX3_placeOf_9 rfl (by decide) rfl ?_
  have lp10_2 : ∀ (d_10 : Nat) (i : Nat) (lr : Int32) (w : Nat), i ≤ v_of S p 0 → w = befN S p v i → v_of S p 0 - i < d_10 → jv_J x G 5 Q_ (jv_up M q_1 (.inr (24, [.int (nI i), .int lr, .int mc_, .ref lv]))) 1 4 10 [(0, .ref b), (1, .int (nI v)), (3, .ref q_1), (2, .int (nI w))] [] := by
    intro d_10
    induction d_10 with
    | zero => intro i lr w hi5 hw hm_10; exact absurd hm_10 (Nat.not_lt_zero _)
    | succ d_10 ih_10 =>
      intro i lr w hi5 hw hm_10
      refine jv_aload_n X dX3_placeOf_10 2 rfl ?_
      refine jv_askF (jv_runF (xm := jx_hasNext) (As := []) (rest := []) X dX3_placeOf_11 (hG.f X).2.2.2.2.2.1 (c_J8_hasNext jv_up_s ((jv_up_n (new_ne hnq_1 hl)).trans hl) (by omega) (by omega)) (lw_F q570 q321 q323 q101 q325) hd_jx_hasNext jv_up_s rfl (Nat.le_of_ble_eq_true rfl) (Nat.le_of_ble_eq_true rfl) (Nat.le_of_ble_eq_true rfl) (Nat.le_of_ble_eq_true rfl) rfl (Nat.le_of_ble_eq_true rfl)) ?_
      refine jb_if_eq 60 X dX3_placeOf_16 (by decide) (fun c16 => ?_) (fun c16 => ?_)
      · skip
        have hne_ := hn_f c16
        refine jv_iload_n X dX3_placeOf_60 3 rfl ?_
        refine jv_fewer (jag.few (jag.new jag.rf hnq_1)) ?_
        exact jv_iret (v := nI w) X dX3_placeOf_61 rfl hQ (Nat.le_of_ble_eq_true rfl) (Nat.le_of_ble_eq_true rfl) ⟨(by rw [hw, show i = v_of S p 0 by omega]; rfl), rfl⟩
      · skip
        have hne_ := hn_t c16
        refine jv_aload_n X dX3_placeOf_19 2 rfl ?_
        refine jv_callFr (jv_runF (xm := jx_next) (As := []) (rest := []) X dX3_placeOf_20 (hG.f X).2.2.2.2.2.2.1 (c_J8_next jv_up_s ((jv_up_n (new_ne hnq_1 hl)).trans hl) ((jv_up_n (new_ne hnq_1 he)).trans he) (V i) hbq_1 (by omega) (by omega) (by omega) (by rw [hf _ (by omega)]; rfl)) (lw_F q572 q330 q332 q101 q334) hd_jx_next jv_up_s rfl (Nat.le_of_ble_eq_true rfl) (Nat.le_of_ble_eq_true rfl) (Nat.le_of_ble_eq_true rfl) (Nat.le_of_ble_eq_true rfl) rfl (Nat.le_of_ble_eq_true rfl)) (fun rr_ M_ h_ => ?_)
        obtain ⟨hr_, hm_⟩ := h_
        rw [hr_, hm_]
        clear hr_ hm_
        rw [jv_up_up]
        have hvr__3 := hW.vr hp6 (v := i) (by omega)
        refine jv_castS X dX3_placeOf_25 ((jag.new jag.rf hnq_1).c (hv i (by omega)).1.c) (r := (RX4, TX4, 3)) rfl q573 ?_
        refine jv_astore (lv' := [(4, .ref (V i)), (0, .ref b), (1, .int (nI v)), (3, .ref q_1), (2, .int (nI w))]) X dX3_placeOf_28 (by decide) rfl ?_
        refine jv_iload_n X dX3_placeOf_30 4 rfl ?_
        refine jv_aload X dX3_placeOf_31 0 rfl ?_
        refine jv_aload_n X dX3_placeOf_33 1 rfl ?_
        refine jv_get X dX3_placeOf_34 ((jv_up_n (new_ne hnq_1 hb)).trans hb) (T := TX3) (N := 2) (C := RX3) rfl in_X3 0 (by decide) q352 rfl rfl ?_
        refine jv_iload_n X dX3_placeOf_37 2 rfl ?_
        refine jv_callr (jv_runV (As := [.int (nI v)]) (rest := [.ref (V i), .int (nI w)]) X dX3_placeOf_38 (c_J2_get ((jv_up_n (new_ne hnq_1 hl)).trans hl) ((jv_up_n (new_ne hnq_1 he)).trans he) v (V v) (by omega) (by omega) (by omega) (by rw [hf _ (by omega)]; rfl)) (lw_V q612 q533 q534 q94 q535) hd_J2_get ((jv_up_n (new_ne hnq_1 hl)).trans hl) rfl (Nat.le_of_ble_eq_true rfl) (Nat.le_of_ble_eq_true rfl) (by omega) (by omega) rfl (Nat.le_of_ble_eq_true rfl)) (fun rr_ M_ h_ => ?_)
        obtain ⟨hr_, hm_⟩ := h_
        rw [hr_, hm_]
        clear hr_ hm_
        have hvr__5 := hW.vr hp6 (v := v) (by omega)
        refine jv_castS X dX3_placeOf_41 ((jag.new jag.rf hnq_1).c (hv v (by omega)).1.c) (r := (RX4, TX4, 3)) rfl q573 ?_
        refine jv_ask (jv_runV (As := [.ref (V v)]) (rest := [.int (nI w)]) X dX3_placeOf_44 (c_X4_isBefore (c := v_of S p (2 + i)) (d := v_of S p (2 + v)) ((jag.new jag.rf hnq_1).c (hv i (by omega)).1.c) ((jag.new jag.rf hnq_1).c (hv v (by omega)).1.c) (by omega) (by omega)) (lw_V q613 q614 q615 q109 q616) hd_X4_isBefore ((jag.new jag.rf hnq_1).c (hv i (by omega)).1.c) rfl (Nat.le_of_ble_eq_true rfl) (Nat.le_of_ble_eq_true rfl) (by omega) (by omega) rfl (Nat.le_of_ble_eq_true rfl)) ?_
        have j55_6 : ∀ wx : Nat, wx = (if (decide (v_order (v_of S p (2 + i)) < v_order (v_of S p (2 + v)))) = true then 1 else 0) → jv_J x G 5 Q_ (jv_up M q_1 (.inr (24, [.int (nI (i + 1)), .int (nI i), .int mc_, .ref lv]))) 1 4 55 [(4, .ref (V i)), (0, .ref b), (1, .int (nI v)), (3, .ref q_1), (2, .int (nI w))] [.int (nI wx), .int (nI w)] := by
          intro wx e_wx
          refine jv_iadd (w := nI (w + wx)) X dX3_placeOf_55 (nI_add _ _) ?_
          refine jv_istore_n (lv' := [(2, .int (nI (w + wx))), (4, .ref (V i)), (0, .ref b), (1, .int (nI v)), (3, .ref q_1)]) X dX3_placeOf_56 rfl (by decide) rfl ?_
          refine jv_goto 10 X dX3_placeOf_57 (by decide) ?_
          refine jv_lv (lv' := [(0, .ref b), (1, .int (nI v)), (3, .ref q_1), (2, .int (nI (w + wx)))]) [2, 3, 4, 0] rfl ?_
          exact ih_10 (i + 1) (nI i) (w + wx) (by omega) (by rw [hw, e_wx, bef_s]; rfl) (by omega)
        refine jb_if_eq 54 X dX3_placeOf_47 (by decide) (fun c47 => ?_) (fun c47 => ?_)
        · skip
          refine jv_iconst (v := nI 0) X dX3_placeOf_54 rfl ?_
          exact j55_6 _ (if_neg (Bool.eq_false_iff.mp c47)).symm
        · skip
          refine jv_iconst (v := nI 1) X dX3_placeOf_50 rfl ?_
          refine jv_goto 55 X dX3_placeOf_51 (by decide) ?_
          exact j55_6 _ (if_pos c47).symm
  refine jv_lv (lv' := [(0, .ref b), (1, .int (nI v)), (3, .ref q_1), (2, .int (nI 0))]) [2, 3, 0, 1] rfl ?_
  exact lp10_2 (v_of S p 0 + 1) 0 (-1) 0 (Nat.zero_le _) rfl (by omega)
