/-! new packs -/
set_option maxRecDepth 100000
theorem hd_X3_init : jv_dd yX3_init 0 := by unfold jv_dd; decide +kernel
set_option maxHeartbeats 4000000 in
theorem c_X3_init {l : Launch} {G : jv_G}  {σ : jk_A} (hG : jk_G G σ) {B : jv_M} {a : Nat} (hna : B a = none) (hfa : G.1 ≤ a)   : jv_Ct G l yX3_init cX3_init 1 (none) 4 2 8 91 [.ref a] (jv_up B a (.inr (3, [.null, .int 0]))) (jv_qv G (fun M' => ∃ lv e, M' a = some (.inr (3, [.ref lv, .int 0])) ∧ M' lv = some (.inr (20, [.int (nI 0), .ref e, .int 0])) ∧ M' e = some (.inl (G.2.2.1 1, 5, .inr (.inr (.inr (.inr (fun _ => none)))))) ∧ (B lv = none ∧ B e = none) ∧ (G.1 ≤ lv ∧ G.1 ≤ e) ∧ jag B M')) := by
  refine jv_Ct.of (lv := [(0, .ref a)]) (by decide) (Nat.le_of_ble_eq_true rfl) rfl ?_
  intro x Q_ hl_ hQ X
  subst hl_
  refine jv_aload_n X dX3_init_0 0 rfl ?_
  refine jv_obj0 X dX3_init_1 q349 (Nat.le_of_ble_eq_true rfl) (Nat.le_of_ble_eq_true rfl) ?_
  refine jv_aload_n X dX3_init_4 0 rfl ?_
  refine jv_new (k1 := 1) (n1 := 3) X dX3_init_5 (T := TJ2) (N := 3) (C := RJ2) (fs := [.int 0, .null, .int 0]) (ci := 20) rfl in_J2 tyJ2 tyJ2_ok q350 q149 q94 rfl rfl rfl (Nat.le_of_ble_eq_true rfl) (Nat.le_of_ble_eq_true rfl) (fun q_1 hnq_1 hbq_1 => ?_)
  refine jv_dup X dX3_init_8 rfl ?_
  refine jv_iconst (v := nI 5) X dX3_init_9 rfl ?_
  refine jv_callv (jv_runI (As := [.int (nI 5)]) (rest := [.ref q_1, .ref a]) X dX3_init_10 (c_J2_init5 hG jv_up_s hbq_1) (lw_meth q152) q94 q351 q151 rfl hd_J2_init (Nat.le_of_ble_eq_true rfl) (Nat.le_of_ble_eq_true rfl) (by omega) (by omega) rfl (Nat.le_of_ble_eq_true rfl)) (fun M_ h_ => ?_)
  obtain ⟨q_2, hnq_2, hbq_2, hm_⟩ := h_
  rw [hm_]
  clear hm_
  refine jv_putF (fs' := [.ref q_1, .int 0]) X dX3_init_13 ((jv_up_n (new_ne hnq_1 jv_up_s)).trans ((jv_up_n (new_ne hnq_2 ((jv_up_n (new_ne hnq_1 jv_up_s)).trans jv_up_s))).trans ((jv_up_n (new_ne hnq_1 jv_up_s)).trans jv_up_s))) hfa (T := TX3) (N := 2) (C := RX3) rfl in_X3 tyX3 tyX3_ok nmX3 0 (by decide) q352 rfl rfl rfl rfl rfl rfl rfl (show 0 < 2 from by decide) rfl ?_
  exact jv_vret X dX3_init_16 hQ (Nat.le_of_ble_eq_true rfl) (Nat.le_of_ble_eq_true rfl) ⟨q_1, q_2, jv_up_s, ((jv_up_n (Ne.symm (new_ne hnq_1 jv_up_s))).trans jv_up_s), ((jv_up_n (Ne.symm (new_ne hnq_2 ((jv_up_n (new_ne hnq_1 jv_up_s)).trans jv_up_s)))).trans ((jv_up_n (Ne.symm (new_ne hnq_2 jv_up_s))).trans jv_up_s)), ⟨(jag.none (jag.new jag.rf hna) hnq_1), (jag.none (jag.new (jag.new jag.rf hna) hnq_1) hnq_2)⟩, ⟨hbq_1, hbq_2⟩, (jag.put (jag.put (jag.new (jag.new (jag.new jag.rf hna) hnq_1) hnq_2) (jag.none (jag.new jag.rf hna) hnq_1)) hna)⟩
