/-! packs copied -/
set_option maxRecDepth 100000
theorem hd_X3_copy : jv_dd yX3_copy 0 := by unfold jv_dd; decide +kernel
set_option maxHeartbeats 4000000 in
theorem c_X3_copy {l : Launch} {G : jv_G} {M : jv_M} {σ : jk_A} (hG : jk_G G σ) {τ : Nat → Nat} {t b p : Nat} {S : Nat → Nat} (hp : jpack G M τ t b S p) (hW : wfB S) (hp6 : p < 6)   : jv_Ct G l yX3_copy cX3_copy 2 (some (.object "VersionSolver$Pack")) 5 4 70 119 [.ref b] M (jv_qr G (fun r M' => M r = none ∧ G.1 ≤ r ∧ ∃ (lv e : Nat) (mc : Int32) (g : Nat → Option Nat) (V : Nat → Nat), M' r = some (.inr (3, [.ref lv, .int (nI (v_of S p 1))])) ∧ M' lv = some (.inr (20, [.int mc, .ref e, .int (nI (v_of S p 0))])) ∧ M' e = some (.inl (G.2.2.1 1, 5, .inr (.inr (.inr (.inr g))))) ∧ (∀ v, v < v_of S p 0 → g v = some (V v) ∧ jver M (V v) (v_of S p (2 + v)) ∧ τ (V v) = 0) ∧ (M lv = none ∧ M e = none) ∧ (G.1 ≤ lv ∧ G.1 ≤ e) ∧ jag M M')) := by
  refine jv_Ct.of (lv := [(0, .ref b)]) (by decide) (Nat.le_of_ble_eq_true rfl) rfl ?_
  intro x Q_ hl_ hQ X
  subst hl_
  obtain ⟨lv, V, hb, hfb, ⟨mc_, e, f, hl, he, hn5, hf, hge, -, -⟩, hvv⟩ := id hp
  have ho := hW.op hp6
  have hnv := hW.nv hp6
  refine jv_new (k1 := 1) (n1 := 2) X dX3_copy_0 (T := TX3) (N := 2) (C := RX3) (fs := [.null, .int 0]) (ci := 3) rfl in_X3 tyX3 tyX3_ok q344 q345 q102 rfl rfl rfl (Nat.le_of_ble_eq_true rfl) (Nat.le_of_ble_eq_true rfl) (fun q_1 hnq_1 hbq_1 => ?_)
  refine jv_dup X dX3_copy_3 rfl ?_
  refine jv_callv (jv_runI (As := []) (rest := [.ref q_1]) X dX3_copy_4 (c_X3_init hG hnq_1 hbq_1) (lw_meth q348) q102 q346 q347 rfl hd_X3_init (Nat.le_of_ble_eq_true rfl) (Nat.le_of_ble_eq_true rfl) (by omega) (by omega) rfl (Nat.le_of_ble_eq_true rfl)) (fun M1_ h_ => ?_)
  obtain ⟨lv1, e1, ha1, hl1, he1, ⟨hn1, hn2⟩, ⟨hg1, hg2⟩, hag1⟩ := h_
  refine jv_astore_n (lv' := [(1, .ref q_1), (0, .ref b)]) X dX3_copy_7 rfl (by decide) rfl ?_
  refine jv_aload_n X dX3_copy_8 0 rfl ?_
  refine jv_get X dX3_copy_9 ha1 (T := TX3) (N := 2) (C := RX3) rfl in_X3 0 (by decide) q352 rfl rfl ?_
  refine jv_aload_n X dX3_copy_12 1 rfl ?_
  refine jv_get X dX3_copy_13 (hag1.c hb) (T := TX3) (N := 2) (C := RX3) rfl in_X3 0 (by decide) q352 rfl rfl ?_
  refine jv_calli (jv_runV (As := [.ref lv]) (rest := []) X dX3_copy_16 (c_J2_addAll hG (hag1.c hl) (hag1.c he) hge.2 hn5 (by decide) (fun i hi v hv => by have e9 := Option.some.inj ((hf i hi).symm.trans hv); subst e9; exact ⟨4, _, (RX4, TX4, 3), hag1.c (hvv i hi).1.c, rfl, q2510⟩) (show M1_ lv1 = some (.inr (20, [.int (nI 0), .ref e1, .int (nI 0)])) from hl1) hg1 he1 hg2 (by decide) hn5 (new_ne hn1 hl) (new_ne hn2 he) (fun i hi v hv => by have e9 := Option.some.inj ((hf i hi).symm.trans hv); subst e9; exact ck_ne (hag1.c (hvv i hi).1.c) hl1 rfl)) (lw_V q362 q363 q364 q94 q365) hd_J2_addAll hl1 rfl (Nat.le_of_ble_eq_true rfl) (Nat.le_of_ble_eq_true rfl) (by omega) (by omega) rfl (Nat.le_of_ble_eq_true rfl)) (fun rr_ M2_ h_ => ?_)
  obtain ⟨⟨bb_, hr_⟩, g1, hb2, hh2, hgg, hex, hjd⟩ := h_
  rw [hr_]
  clear hr_
  have hag2 : jag M M2_ := fun z hz => (hex z (by rw [hag1 z hz]; exact hz) (fun y => hz (y ▸ hn1)) (fun y => hz (y ▸ hn2))).trans (hag1 z hz)
  have ha2 := (hex q_1 (by rw [ha1]; exact nofun) (ck_ne ha1 hl1 rfl) (ck_ne ha1 he1 rfl)).trans ha1
  refine jv_pop X dX3_copy_19 rfl ?_
  refine jv_aload_n X dX3_copy_20 0 rfl ?_
  refine jv_aload_n X dX3_copy_21 1 rfl ?_
  refine jv_get X dX3_copy_22 (hag2.c hb) (T := TX3) (N := 2) (C := RX3) rfl in_X3 1 (by decide) q355 rfl rfl ?_
  obtain ⟨ob_, hob_⟩ : ∃ ob : Bool, nI (v_of S p 1) = bI ob := by
      rcases (by omega : v_of S p 1 = 0 ∨ v_of S p 1 = 1) with z | z <;> rw [z]
      · exact ⟨false, rfl⟩
      · exact ⟨true, rfl⟩
  rw [hob_]
  refine jv_put (fs' := [.ref lv1, .int (bI ob_)]) X dX3_copy_25 ha2 hbq_1 (T := TX3) (N := 2) (C := RX3) rfl in_X3 tyX3 tyX3_ok nmX3 1 (by decide) q355 rfl rfl  rfl (bI_nar _) (bI_fit _) (show 1 < 2 from by decide) rfl ?_
  refine jv_aload_n X dX3_copy_28 0 rfl ?_
  exact jv_aret X dX3_copy_29 (by first | exact Or.inl ⟨_, rfl⟩ | exact Or.inr ⟨_, rfl⟩) hQ (Nat.le_of_ble_eq_true rfl) (Nat.le_of_ble_eq_true rfl) ⟨hnq_1, hbq_1, lv1, e1, _, g1, V, (jv_up_s).trans (by rw [hob_]), ((jv_up_n (ck_ne hb2 ha2 rfl)).trans hb2), ((jv_up_n (ck_ne hh2 ha2 rfl)).trans hh2), (fun v hv => ⟨(hgg v hv).trans (hf v hv), (hvv v hv).1, (hvv v hv).2⟩), ⟨hn1, hn2⟩, ⟨hg1, hg2⟩, (jag.put hag2 hnq_1)⟩
