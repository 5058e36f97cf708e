/-! rules added -/
set_option maxRecDepth 100000
theorem hd_X1_add : jv_dd yX1_add 1 := by unfold jv_dd; decide +kernel
set_option maxHeartbeats 4000000 in
theorem c_X1_add {l : Launch} {G : jv_G} {M : jv_M} {σ : jk_A} (hG : jk_G G σ) {b lp lr la e n : Nat} {mc : Int32} {f : Nat → Option Nat} (hb : M b = some (.inr (1, [.ref lp, .ref lr, .ref la]))) (hl : M lr = some (.inr (20, [.int mc, .ref e, .int (nI n)]))) (he : M e = some (.inl (G.2.2.1 1, 30, .inr (.inr (.inr (.inr f)))))) (hfl : G.1 ≤ lr) (hfe : G.1 ≤ e) {v ci : Nat} {vs : List Value} {rc : vw_C} (hv : M v = some (.inr (ci, vs))) (hfv : G.1 ≤ v) (hc : jv_cl[ci]? = some rc) (hcast : Cond.castable rc.1 "java/lang/Object" ∈ lw_tbl) (hva : v ≠ lr)  (hn : n < 30) : jv_Ct G l yX1_add cX1_add 2 (some .int) 2 0 0 44 [.ref b, .ref v] M (jv_qi G (fun r M' => r = nI n ∧ M' = jv_up (jv_up M e (.inl (G.2.2.1 1, 30, .inr (.inr (.inr (.inr (va_up f n (some v)))))))) lr (.inr (20, [.int (mc + nI 1), .ref e, .int (nI (n + 1))])))) := by
  refine jv_Ct.of (lv := [(0, .ref b), (1, .ref v)]) (by decide) (Nat.le_of_ble_eq_true rfl) rfl ?_
  intro x Q_ hl_ hQ X
  subst hl_
  refine jv_aload_n X dX1_add_0 0 rfl ?_
  refine jv_get X dX1_add_1 hb (T := TX1) (N := 3) (C := RX1) rfl in_X1 1 (by decide) q184 rfl rfl ?_
  refine jv_aload_n X dX1_add_4 1 rfl ?_
  refine jv_calli (jv_runV (As := [.ref v]) (rest := []) X dX1_add_5 (c_J2_add hl he hv hfv hc hcast hva hfl hfe hn (by decide)) (lw_V q452 q453 q454 q94 q455) hd_J2_add hl rfl (Nat.le_of_ble_eq_true rfl) (Nat.le_of_ble_eq_true rfl) (Nat.le_of_ble_eq_true rfl) (Nat.le_of_ble_eq_true rfl) rfl (Nat.le_of_ble_eq_true rfl)) (fun rr_ M_ h_ => ?_)
  obtain ⟨hr_, hm_⟩ := h_
  rw [hr_, hm_]
  clear hr_ hm_
  refine jv_pop X dX1_add_8 rfl ?_
  refine jv_aload_n X dX1_add_9 0 rfl ?_
  refine jv_get X dX1_add_10 ((jv_up_n (ck_ne hb hl rfl)).trans ((jv_up_n (ck_ne hb he rfl)).trans hb)) (T := TX1) (N := 3) (C := RX1) rfl in_X1 1 (by decide) q184 rfl rfl ?_
  refine jv_ask (jv_runV (As := []) (rest := []) X dX1_add_13 (c_J2_size jv_up_s) (lw_V q733 q284 q285 q94 q286) hd_J2_size jv_up_s rfl (Nat.le_of_ble_eq_true rfl) (Nat.le_of_ble_eq_true rfl) (Nat.le_of_ble_eq_true rfl) (Nat.le_of_ble_eq_true rfl) rfl (Nat.le_of_ble_eq_true rfl)) ?_
  refine jv_iconst (v := nI 1) X dX1_add_16 rfl ?_
  refine jv_isub (w := nI ((n + 1) - 1)) X dX1_add_17 (pk_sub (by omega)) ?_
  exact jv_iret (v := nI ((n + 1) - 1)) X dX1_add_18 rfl hQ (Nat.le_of_ble_eq_true rfl) (Nat.le_of_ble_eq_true rfl) ⟨congrArg nI (by omega), rfl⟩
