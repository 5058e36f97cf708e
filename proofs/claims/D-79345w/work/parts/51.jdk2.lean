/-! JDK, second: lists -/
set_option maxRecDepth 100000
theorem hd_J2_size : jv_dd yJ2_size 0 := by unfold jv_dd; decide +kernel
set_option maxHeartbeats 4000000 in
theorem c_J2_size {l : Launch} {G : jv_G} {M : jv_M} {a e n : Nat} {mc : Int32} (ha : M a = some (.inr (20, [.int mc, .ref e, .int (nI n)])))   : jv_Ct G l yJ2_size cJ2_size 1 (some .int) 0 0 0 0 [.ref a] M (jv_qi G (jv_pi (nI n) M)) := by
  refine jv_Ct.of (lv := [(0, .ref a)]) (by decide) (Nat.le_of_ble_eq_true rfl) rfl ?_
  intro x Q_ hl_ hQ X
  subst hl_
  refine jv_aload_n X dJ2_size_0 0 rfl ?_
  refine jv_get X dJ2_size_1 ha (T := TJ2) (N := 3) (C := RJ2) rfl in_J2 2 (by decide) q167 rfl rfl ?_
  exact jv_iret (v := nI n) X dJ2_size_4 rfl hQ (Nat.le_of_ble_eq_true rfl) (Nat.le_of_ble_eq_true rfl) ⟨rfl, rfl⟩
theorem hd_J2_isEmpty : jv_dd yJ2_isEmpty 0 := by unfold jv_dd; decide +kernel
set_option maxHeartbeats 4000000 in
theorem c_J2_isEmpty {l : Launch} {G : jv_G} {M : jv_M} {a e n : Nat} {mc : Int32} (ha : M a = some (.inr (20, [.int mc, .ref e, .int (nI n)])))  (hn : n < 2 ^ 31) : jv_Ct G l yJ2_isEmpty cJ2_isEmpty 1 (some .boolean) 0 0 0 0 [.ref a] M (jv_qi G (jv_pi (bI (decide (n = 0))) M)) := by
  refine jv_Ct.of (lv := [(0, .ref a)]) (by decide) (Nat.le_of_ble_eq_true rfl) rfl ?_
  intro x Q_ hl_ hQ X
  subst hl_
  refine jv_aload_n X dJ2_isEmpty_0 0 rfl ?_
  refine jv_get X dJ2_isEmpty_1 ha (T := TJ2) (N := 3) (C := RJ2) rfl in_J2 2 (by decide) q167 rfl rfl ?_
  have j12_1 : ∀ w : Bool, w = (if n = 0 then true else false) → jv_J x G 1 Q_ M 0 0 12 [(0, .ref a)] [.int (bI w)] := by
    intro w e_w
    exact jv_iret (v := bI w) X dJ2_isEmpty_12 (bI_nar _) hQ (Nat.le_of_ble_eq_true rfl) (Nat.le_of_ble_eq_true rfl) ⟨(by rw [e_w, ite_tf]), rfl⟩
  refine jn_if_ne 11 X dJ2_isEmpty_4 (by decide) (by omega) (fun c4 => ?_) (fun c4 => ?_)
  · skip
    refine jv_iconst (v := nI 0) X dJ2_isEmpty_11 rfl ?_
    exact j12_1 _ (if_neg c4).symm
  · skip
    refine jv_iconst (v := nI 1) X dJ2_isEmpty_7 rfl ?_
    refine jv_goto 12 X dJ2_isEmpty_8 (by decide) ?_
    exact j12_1 _ (if_pos c4).symm
theorem hd_J2_elementData : jv_dd yJ2_elementData 1 := by unfold jv_dd; decide +kernel
set_option maxHeartbeats 4000000 in
theorem c_J2_elementData {l : Launch} {G : jv_G} {M : jv_M} {a e N n : Nat} {mc : Int32} {f : Nat → Option Nat} (ha : M a = some (.inr (20, [.int mc, .ref e, .int (nI n)]))) (he : M e = some (.inl (G.2.2.1 1, N, .inr (.inr (.inr (.inr f)))))) (i : Nat) (x_ : Nat) (hi : i < N) (hN : N < 2 ^ 31) (hx : va_rf (f i) = .ref x_) : jv_Ct G l yJ2_elementData cJ2_elementData 2 (some (.object "java/lang/Object")) 0 0 0 0 [.ref a, .int (nI i)] M (jv_qr G (fun r M' => r = x_ ∧ M' = M)) := by
  refine jv_Ct.of (lv := [(0, .ref a), (1, .int (nI i))]) (by decide) (Nat.le_of_ble_eq_true rfl) rfl ?_
  intro x Q_ hl_ hQ X
  subst hl_
  refine jv_aload_n X dJ2_elementData_0 0 rfl ?_
  refine jv_get X dJ2_elementData_1 ha (T := TJ2) (N := 3) (C := RJ2) rfl in_J2 1 (by decide) q164 rfl rfl ?_
  refine jv_iload_n X dJ2_elementData_4 1 rfl ?_
  refine jv_aald (v := .ref x_) X dJ2_elementData_5 he (jn_in (by omega) (by omega)) (by rw [nI_clamp (by omega)]; exact hx) ?_
  exact jv_aret X dJ2_elementData_6 (by first | exact Or.inl ⟨_, rfl⟩ | exact Or.inr ⟨_, rfl⟩) hQ (Nat.le_of_ble_eq_true rfl) (Nat.le_of_ble_eq_true rfl) ⟨rfl, rfl⟩
theorem hd_J2_get : jv_dd yJ2_get 1 := by unfold jv_dd; decide +kernel
set_option maxHeartbeats 4000000 in
theorem c_J2_get {l : Launch} {G : jv_G} {M : jv_M} {a e N n : Nat} {mc : Int32} {f : Nat → Option Nat} (ha : M a = some (.inr (20, [.int mc, .ref e, .int (nI n)]))) (he : M e = some (.inl (G.2.2.1 1, N, .inr (.inr (.inr (.inr f)))))) (i : Nat) (x_ : Nat) (hi : i < n) (hn : n ≤ N) (hN : N < 2 ^ 31) (hx : va_rf (f i) = .ref x_) : jv_Ct G l yJ2_get cJ2_get 2 (some (.object "java/lang/Object")) 2 0 0 43 [.ref a, .int (nI i)] M (jv_qr G (fun r M' => r = x_ ∧ M' = M)) := by
  refine jv_Ct.of (lv := [(0, .ref a), (1, .int (nI i))]) (by decide) (Nat.le_of_ble_eq_true rfl) rfl ?_
  intro x Q_ hl_ hQ X
  subst hl_
  refine jv_iload_n X dJ2_get_0 1 rfl ?_
  refine jv_aload_n X dJ2_get_1 0 rfl ?_
  refine jv_get X dJ2_get_2 ha (T := TJ2) (N := 3) (C := RJ2) rfl in_J2 2 (by decide) q167 rfl rfl ?_
  refine jv_ask (jv_runS (As := [.int (nI i), .int (nI n)]) (rest := []) X dJ2_get_5 (c_J12_checkIndex i n (by omega) (by omega)) (lw_S q536 q537 q107 q538) hd_J12_checkIndex (Nat.le_of_ble_eq_true rfl) (Nat.le_of_ble_eq_true rfl) (Nat.le_of_ble_eq_true rfl) (Nat.le_of_ble_eq_true rfl) rfl (Nat.le_of_ble_eq_true rfl)) ?_
  refine jv_pop X dJ2_get_8 rfl ?_
  refine jv_aload_n X dJ2_get_9 0 rfl ?_
  refine jv_iload_n X dJ2_get_10 1 rfl ?_
  refine jv_callr (jv_runV (As := [.int (nI i)]) (rest := []) X dJ2_get_11 (c_J2_elementData ha he i x_ (by omega) (by omega) hx) (lw_V q542 q543 q544 q94 q545) hd_J2_elementData ha rfl (Nat.le_of_ble_eq_true rfl) (Nat.le_of_ble_eq_true rfl) (Nat.le_of_ble_eq_true rfl) (Nat.le_of_ble_eq_true rfl) rfl (Nat.le_of_ble_eq_true rfl)) (fun rr_ M_ h_ => ?_)
  obtain ⟨hr_, hm_⟩ := h_
  rw [hr_, hm_]
  clear hr_ hm_
  exact jv_aret X dJ2_get_14 (by first | exact Or.inl ⟨_, rfl⟩ | exact Or.inr ⟨_, rfl⟩) hQ (Nat.le_of_ble_eq_true rfl) (Nat.le_of_ble_eq_true rfl) ⟨rfl, rfl⟩
theorem hd_J2_add_2 : jv_dd yJ2_add_2 3 := by unfold jv_dd; decide +kernel
set_option maxHeartbeats 4000000 in
theorem c_J2_add_2 {l : Launch} {G : jv_G} {M : jv_M} {a e N n : Nat} {mc : Int32} {f : Nat → Option Nat} (ha : M a = some (.inr (20, [.int mc, .ref e, .int (nI n)]))) (he : M e = some (.inl (G.2.2.1 1, N, .inr (.inr (.inr (.inr f)))))) {v ci : Nat} {vs : List Value} {r : vw_C} (hv : M v = some (.inr (ci, vs))) (hfv : G.1 ≤ v) (hc : jv_cl[ci]? = some r) (hcast : Cond.castable r.1 "java/lang/Object" ∈ lw_tbl) (hva : v ≠ a) (hfa : G.1 ≤ a) (hfe : G.1 ≤ e)  (hn : n < N) (hN : N < 2 ^ 31) : jv_Ct G l yJ2_add_2 cJ2_add_2 4 (none) 0 0 0 0 [.ref a, .ref v, .ref e, .int (nI n)] M (jv_qv G (fun M' => M' = jv_up (jv_up M e (.inl (G.2.2.1 1, N, .inr (.inr (.inr (.inr (va_up f n (some v)))))))) a (.inr (20, [.int mc, .ref e, .int (nI (n + 1))])))) := by
  refine jv_Ct.of (lv := [(0, .ref a), (1, .ref v), (2, .ref e), (3, .int (nI n))]) (by decide) (Nat.le_of_ble_eq_true rfl) rfl ?_
  intro x Q_ hl_ hQ X
  subst hl_
  refine jv_iload_n X dJ2_add_2_0 3 rfl ?_
  refine jv_aload_n X dJ2_add_2_1 2 rfl ?_
  refine jv_alen (t0 := 1) (v := nI N) X dJ2_add_2_2 he rfl rfl ?_
  refine jn_icmp_ne 11 X dJ2_add_2_3 (by decide) (by omega) (by omega) (fun c3 => ?_) (fun c3 => ?_)
  · skip
    refine jv_aload_n X dJ2_add_2_11 2 rfl ?_
    refine jv_iload_n X dJ2_add_2_12 3 rfl ?_
    refine jv_aload_n X dJ2_add_2_13 1 rfl ?_
    refine jv_astq (g := va_up f n (some v)) X dJ2_add_2_14 he hfe hv hfv hc hcast (jn_in (by omega) (by omega)) (by rw [nI_clamp (by omega)]) ?_
    refine jv_aload_n X dJ2_add_2_15 0 rfl ?_
    refine jv_iload_n X dJ2_add_2_16 3 rfl ?_
    refine jv_iconst (v := nI 1) X dJ2_add_2_17 rfl ?_
    refine jv_iadd (w := nI (n + 1)) X dJ2_add_2_18 (nI_add _ _) ?_
    refine jv_put (fs' := [.int mc, .ref e, .int (nI (n + 1))]) X dJ2_add_2_19 ((jv_up_n (ck_ne ha he rfl)).trans ha) hfa (T := TJ2) (N := 3) (C := RJ2) rfl in_J2 tyJ2 tyJ2_ok nmJ2 2 (by decide) q167 rfl rfl  rfl rfl rfl (show 2 < 3 from by decide) rfl ?_
    exact jv_vret X dJ2_add_2_22 hQ (Nat.le_of_ble_eq_true rfl) (Nat.le_of_ble_eq_true rfl) rfl
  · skip
    exact (absurd hn (by omega))
theorem hd_J2_add : jv_dd yJ2_add 1 := by unfold jv_dd; decide +kernel
set_option maxHeartbeats 4000000 in
theorem c_J2_add {l : Launch} {G : jv_G} {M : jv_M} {a e N n : Nat} {mc : Int32} {f : Nat → Option Nat} (ha : M a = some (.inr (20, [.int mc, .ref e, .int (nI n)]))) (he : M e = some (.inl (G.2.2.1 1, N, .inr (.inr (.inr (.inr f)))))) {v ci : Nat} {vs : List Value} {r : vw_C} (hv : M v = some (.inr (ci, vs))) (hfv : G.1 ≤ v) (hc : jv_cl[ci]? = some r) (hcast : Cond.castable r.1 "java/lang/Object" ∈ lw_tbl) (hva : v ≠ a) (hfa : G.1 ≤ a) (hfe : G.1 ≤ e)  (hn : n < N) (hN : N < 2 ^ 31) : jv_Ct G l yJ2_add cJ2_add 2 (some .boolean) 1 0 0 23 [.ref a, .ref v] M (jv_qi G (fun r M' => r = nI 1 ∧ M' = jv_up (jv_up M e (.inl (G.2.2.1 1, N, .inr (.inr (.inr (.inr (va_up f n (some v)))))))) a (.inr (20, [.int (mc + nI 1), .ref e, .int (nI (n + 1))])))) := by
  refine jv_Ct.of (lv := [(0, .ref a), (1, .ref v)]) (by decide) (Nat.le_of_ble_eq_true rfl) rfl ?_
  intro x Q_ hl_ hQ X
  subst hl_
  refine jv_aload_n X dJ2_add_0 0 rfl ?_
  refine jv_dup X dJ2_add_1 rfl ?_
  refine jv_getS X dJ2_add_2 ha (T := TJ2) (N := 3) (C := RJ2) rfl in_J2 0 (by decide) q171 q170 rfl ?_
  refine jv_iconst (v := nI 1) X dJ2_add_5 rfl ?_
  refine jv_iadd (w := mc + (nI 1)) X dJ2_add_6 rfl ?_
  refine jv_putS (fs' := [.int (mc + (nI 1)), .ref e, .int (nI n)]) X dJ2_add_7 ha hfa (T := TJ2) (N := 3) (C := RJ2) rfl in_J2 tyJ2 tyJ2_ok nmJ2 0 (by decide) q171 q170 rfl  rfl rfl rfl (show 0 < 3 from by decide) rfl ?_
  refine jv_aload_n X dJ2_add_10 0 rfl ?_
  refine jv_aload_n X dJ2_add_11 1 rfl ?_
  refine jv_aload_n X dJ2_add_12 0 rfl ?_
  refine jv_get X dJ2_add_13 jv_up_s (T := TJ2) (N := 3) (C := RJ2) rfl in_J2 1 (by decide) q164 rfl rfl ?_
  refine jv_aload_n X dJ2_add_16 0 rfl ?_
  refine jv_get X dJ2_add_17 jv_up_s (T := TJ2) (N := 3) (C := RJ2) rfl in_J2 2 (by decide) q167 rfl rfl ?_
  refine jv_callv (jv_runV (As := [.ref v, .ref e, .int (nI n)]) (rest := []) X dJ2_add_20 (c_J2_add_2 jv_up_s ((jv_up_n (ck_ne he ha rfl)).trans he) ((jv_up_n hva).trans hv) hfv hc hcast hva hfa hfe (by omega) (by omega)) (lw_V q456 q458 qs2 q94 q459) hd_J2_add_2 jv_up_s rfl (Nat.le_of_ble_eq_true rfl) (Nat.le_of_ble_eq_true rfl) (Nat.le_of_ble_eq_true rfl) (Nat.le_of_ble_eq_true rfl) rfl (Nat.le_of_ble_eq_true rfl)) (fun M_ h_ => ?_)
  rw [h_]
  clear h_
  refine jv_iconst (v := nI 1) X dJ2_add_23 rfl ?_
  exact jv_iret (v := bI true) X dJ2_add_24 (bI_nar _) hQ (Nat.le_of_ble_eq_true rfl) (Nat.le_of_ble_eq_true rfl) ⟨rfl, by rw [jv_up_mid (ck_ne ha he rfl)]⟩
theorem hd_J2_fastRemove : jv_dd yJ2_fastRemove 2 := by unfold jv_dd; decide +kernel
set_option maxHeartbeats 4000000 in
theorem c_J2_fastRemove {l : Launch} {G : jv_G} {M : jv_M} {a e N n : Nat} {mc : Int32} {f : Nat → Option Nat} (ha : M a = some (.inr (20, [.int mc, .ref e, .int (nI n)]))) (he : M e = some (.inl (G.2.2.1 1, N, .inr (.inr (.inr (.inr f)))))) (hfa : G.1 ≤ a) (hfe : G.1 ≤ e) (i : Nat) (hi : n = i + 1) (hn : n ≤ N) (hN : N < 2 ^ 31) : jv_Ct G l yJ2_fastRemove cJ2_fastRemove 4 (none) 0 0 0 0 [.ref a, .ref e, .int (nI i)] M (jv_qv G (fun M' => M' = jv_up (jv_up M a (.inr (20, [.int (mc + nI 1), .ref e, .int (nI i)]))) e (.inl (G.2.2.1 1, N, .inr (.inr (.inr (.inr (va_up f i none)))))))) := by
  refine jv_Ct.of (lv := [(0, .ref a), (1, .ref e), (2, .int (nI i))]) (by decide) (Nat.le_of_ble_eq_true rfl) rfl ?_
  intro x Q_ hl_ hQ X
  subst hl_
  refine jv_aload_n X dJ2_fastRemove_0 0 rfl ?_
  refine jv_dup X dJ2_fastRemove_1 rfl ?_
  refine jv_getS X dJ2_fastRemove_2 ha (T := TJ2) (N := 3) (C := RJ2) rfl in_J2 0 (by decide) q171 q170 rfl ?_
  refine jv_iconst (v := nI 1) X dJ2_fastRemove_5 rfl ?_
  refine jv_iadd (w := mc + (nI 1)) X dJ2_fastRemove_6 rfl ?_
  refine jv_putS (fs' := [.int (mc + (nI 1)), .ref e, .int (nI n)]) X dJ2_fastRemove_7 ha hfa (T := TJ2) (N := 3) (C := RJ2) rfl in_J2 tyJ2 tyJ2_ok nmJ2 0 (by decide) q171 q170 rfl  rfl rfl rfl (show 0 < 3 from by decide) rfl ?_
  refine jv_aload_n X dJ2_fastRemove_10 0 rfl ?_
  refine jv_get X dJ2_fastRemove_11 jv_up_s (T := TJ2) (N := 3) (C := RJ2) rfl in_J2 2 (by decide) q167 rfl rfl ?_
  refine jv_iconst (v := nI 1) X dJ2_fastRemove_14 rfl ?_
  refine jv_isub (w := nI i) X dJ2_fastRemove_15 ((pk_sub (by omega)).trans (by rw [show n - 1 = i by omega])) ?_
  refine jv_dup X dJ2_fastRemove_16 rfl ?_
  refine jv_istore_n (lv' := [(3, .int (nI i)), (0, .ref a), (1, .ref e), (2, .int (nI i))]) X dJ2_fastRemove_17 rfl (by decide) rfl ?_
  refine jv_iload_n X dJ2_fastRemove_18 3 rfl ?_
  refine jn_icmp_le 34 X dJ2_fastRemove_19 (by decide) (by omega) (by omega) (fun c19 => ?_) (fun c19 => ?_)
  · skip
    refine jv_aload_n X dJ2_fastRemove_34 2 rfl ?_
    refine jv_aload_n X dJ2_fastRemove_35 1 rfl ?_
    refine jv_iload_n X dJ2_fastRemove_36 0 rfl ?_
    refine jv_dup_x1 X dJ2_fastRemove_37 rfl rfl ?_
    refine jv_put (fs' := [.int (mc + (nI 1)), .ref e, .int (nI i)]) X dJ2_fastRemove_38 jv_up_s hfa (T := TJ2) (N := 3) (C := RJ2) rfl in_J2 tyJ2 tyJ2_ok nmJ2 2 (by decide) q167 rfl rfl  rfl rfl rfl (show 2 < 3 from by decide) rfl ?_
    rw [jv_up_up]
    refine jv_null X dJ2_fastRemove_41 ?_
    refine jv_astqN (g := va_up f i none) X dJ2_fastRemove_42 ((jv_up_n (ck_ne he ha rfl)).trans he) hfe (jn_in (by omega) (by omega)) (by rw [nI_clamp (by omega)]) ?_
    exact jv_vret X dJ2_fastRemove_43 hQ (Nat.le_of_ble_eq_true rfl) (Nat.le_of_ble_eq_true rfl) rfl
  · skip
    exact (absurd (Nat.le_refl i) (by omega))
theorem hd_J2_remove : jv_dd yJ2_remove 1 := by unfold jv_dd; decide +kernel
set_option maxHeartbeats 4000000 in
theorem c_J2_remove {l : Launch} {G : jv_G} {M : jv_M} {a e N n : Nat} {mc : Int32} {f : Nat → Option Nat} (ha : M a = some (.inr (20, [.int mc, .ref e, .int (nI n)]))) (he : M e = some (.inl (G.2.2.1 1, N, .inr (.inr (.inr (.inr f)))))) (hfa : G.1 ≤ a) (hfe : G.1 ≤ e) (i : Nat) (x_ : Nat) (hi : n = i + 1) (hn : n ≤ N) (hN : N < 2 ^ 31) (hx : va_rf (f i) = .ref x_) : jv_Ct G l yJ2_remove cJ2_remove 4 (some (.object "java/lang/Object")) 2 0 0 43 [.ref a, .int (nI i)] M (jv_qr G (fun r M' => r = x_ ∧ M' = jv_up (jv_up M a (.inr (20, [.int (mc + nI 1), .ref e, .int (nI i)]))) e (.inl (G.2.2.1 1, N, .inr (.inr (.inr (.inr (va_up f i none)))))))) := by
  refine jv_Ct.of (lv := [(0, .ref a), (1, .int (nI i))]) (by decide) (Nat.le_of_ble_eq_true rfl) rfl ?_
  intro x Q_ hl_ hQ X
  subst hl_
  refine jv_iload_n X dJ2_remove_0 1 rfl ?_
  refine jv_aload_n X dJ2_remove_1 0 rfl ?_
  refine jv_get X dJ2_remove_2 ha (T := TJ2) (N := 3) (C := RJ2) rfl in_J2 2 (by decide) q167 rfl rfl ?_
  refine jv_ask (jv_runS (As := [.int (nI i), .int (nI n)]) (rest := []) X dJ2_remove_5 (c_J12_checkIndex i n (by omega) (by omega)) (lw_S q536 q537 q107 q538) hd_J12_checkIndex (Nat.le_of_ble_eq_true rfl) (Nat.le_of_ble_eq_true rfl) (Nat.le_of_ble_eq_true rfl) (Nat.le_of_ble_eq_true rfl) rfl (Nat.le_of_ble_eq_true rfl)) ?_
  refine jv_pop X dJ2_remove_8 rfl ?_
  refine jv_aload_n X dJ2_remove_9 0 rfl ?_
  refine jv_get X dJ2_remove_10 ha (T := TJ2) (N := 3) (C := RJ2) rfl in_J2 1 (by decide) q164 rfl rfl ?_
  refine jv_astore_n (lv' := [(2, .ref e), (0, .ref a), (1, .int (nI i))]) X dJ2_remove_13 rfl (by decide) rfl ?_
  refine jv_aload_n X dJ2_remove_14 0 rfl ?_
  refine jv_iload_n X dJ2_remove_15 2 rfl ?_
  refine jv_aald (v := .ref x_) X dJ2_remove_16 he (jn_in (by omega) (by omega)) (by rw [nI_clamp (by omega)]; exact hx) ?_
  refine jv_astore_n (lv' := [(3, .ref x_), (2, .ref e), (0, .ref a), (1, .int (nI i))]) X dJ2_remove_17 rfl (by decide) rfl ?_
  refine jv_aload_n X dJ2_remove_18 2 rfl ?_
  refine jv_aload_n X dJ2_remove_19 1 rfl ?_
  refine jv_iload_n X dJ2_remove_20 3 rfl ?_
  refine jv_callv (jv_runV (As := [.ref e, .int (nI i)]) (rest := []) X dJ2_remove_21 (c_J2_fastRemove ha he hfa hfe i (by omega) (by omega) (by omega)) (lw_V q783 q785 qs15 q94 q786) hd_J2_fastRemove ha rfl (Nat.le_of_ble_eq_true rfl) (Nat.le_of_ble_eq_true rfl) (Nat.le_of_ble_eq_true rfl) (Nat.le_of_ble_eq_true rfl) rfl (Nat.le_of_ble_eq_true rfl)) (fun M_ h_ => ?_)
  rw [h_]
  clear h_
  refine jv_aload_n X dJ2_remove_24 0 rfl ?_
  exact jv_aret X dJ2_remove_25 (by first | exact Or.inl ⟨_, rfl⟩ | exact Or.inr ⟨_, rfl⟩) hQ (Nat.le_of_ble_eq_true rfl) (Nat.le_of_ble_eq_true rfl) ⟨rfl, rfl⟩
theorem hd_J0_init : jv_dd yJ0_init 0 := by unfold jv_dd; decide +kernel
set_option maxHeartbeats 4000000 in
theorem c_J0_init {l : Launch} {G : jv_G} {M : jv_M} (a : Nat)  : jv_Ct G l yJ0_init cJ0_init 1 (none) 1 0 0 30 [.ref a] M (jv_qv G (fun M' => M' = M)) := by
  refine jv_Ct.of (lv := [(0, .ref a)]) (by decide) (Nat.le_of_ble_eq_true rfl) rfl ?_
  intro x Q_ hl_ hQ X
  subst hl_
  refine jv_aload_n X dJ0_init_0 0 rfl ?_
  refine jv_obj0 X dJ0_init_1 q159 (Nat.le_of_ble_eq_true rfl) (Nat.le_of_ble_eq_true rfl) ?_
  exact jv_vret X dJ0_init_4 hQ (Nat.le_of_ble_eq_true rfl) (Nat.le_of_ble_eq_true rfl) rfl
theorem hd_J1_init : jv_dd yJ1_init 0 := by unfold jv_dd; decide +kernel
set_option maxHeartbeats 4000000 in
theorem c_J1_init {l : Launch} {G : jv_G} {M : jv_M} {a : Nat} (ha : M a = some (.inr (20, [.int 0, .null, .int 0]))) (hfa : G.1 ≤ a)   : jv_Ct G l yJ1_init cJ1_init 1 (none) 2 0 0 50 [.ref a] M (jv_qv G (fun M' => M' = jv_up M a (.inr (20, [.int (nI 0), .null, .int 0])))) := by
  refine jv_Ct.of (lv := [(0, .ref a)]) (by decide) (Nat.le_of_ble_eq_true rfl) rfl ?_
  intro x Q_ hl_ hQ X
  subst hl_
  refine jv_aload_n X dJ1_init_0 0 rfl ?_
  refine jv_callv (jv_runI (As := []) (rest := []) X dJ1_init_1 (c_J0_init a) (lw_meth q158) q92 q156 q157 rfl hd_J0_init (Nat.le_of_ble_eq_true rfl) (Nat.le_of_ble_eq_true rfl) (Nat.le_of_ble_eq_true rfl) (Nat.le_of_ble_eq_true rfl) rfl (Nat.le_of_ble_eq_true rfl)) (fun M_ h_ => ?_)
  rw [h_]
  refine jv_aload_n X dJ1_init_4 0 rfl ?_
  refine jv_iconst (v := nI 0) X dJ1_init_5 rfl ?_
  refine jv_put (fs' := [.int (nI 0), .null, .int 0]) X dJ1_init_6 ha hfa (T := TJ2) (N := 3) (C := RJ2) rfl in_J2 tyJ2 tyJ2_ok nmJ2 0 (by decide) q168 rfl rfl  rfl rfl rfl (show 0 < 3 from by decide) rfl ?_
  exact jv_vret X dJ1_init_9 hQ (Nat.le_of_ble_eq_true rfl) (Nat.le_of_ble_eq_true rfl) rfl
theorem hd_J2_init : jv_dd yJ2_init 1 := by unfold jv_dd; decide +kernel
set_option maxHeartbeats 4000000 in
theorem c_J2_init5 {l : Launch} {G : jv_G} {M : jv_M} {σ : jk_A} (hG : jk_G G σ) {a : Nat} (ha : M a = some (.inr (20, [.int 0, .null, .int 0]))) (hfa : G.1 ≤ a)   : jv_Ct G l yJ2_init cJ2_init 2 (none) 3 1 5 70 [.ref a, .int (nI 5)] M (jv_qv G (fun M' => ∃ q, M q = none ∧ G.1 ≤ q ∧ M' = jv_up (jv_up M q (.inl (G.2.2.1 1, 5, .inr (.inr (.inr (.inr (fun _ => none))))))) a (.inr (20, [.int (nI 0), .ref q, .int 0])))) := by
  refine jv_Ct.of (lv := [(0, .ref a), (1, .int (nI 5))]) (by decide) (Nat.le_of_ble_eq_true rfl) rfl ?_
  intro x Q_ hl_ hQ X
  subst hl_
  refine jv_aload_n X dJ2_init_0 0 rfl ?_
  refine jv_callv (jv_runI (As := []) (rest := []) X dJ2_init_1 (c_J1_init ha hfa) (lw_meth q155) q93 q153 q154 rfl hd_J1_init (Nat.le_of_ble_eq_true rfl) (Nat.le_of_ble_eq_true rfl) (Nat.le_of_ble_eq_true rfl) (Nat.le_of_ble_eq_true rfl) rfl (Nat.le_of_ble_eq_true rfl)) (fun M_ h_ => ?_)
  rw [h_]
  clear h_
  refine jv_iload_n X dJ2_init_4 1 rfl ?_
  refine jn_if_le 19 X dJ2_init_5 (by decide) (by omega) (fun c5 => ?_) (fun c5 => ?_)
  · skip
    exact (absurd c5 (by decide))
  · skip
    refine jv_aload_n X dJ2_init_8 0 rfl ?_
    refine jv_iload_n X dJ2_init_9 1 rfl ?_
    refine jv_newq (N := 5) (k1 := 1) (n1 := 5) X dJ2_init_10 q160 (hG.f X).2.2.2.2.1 (by decide) rfl (by decide) rfl rfl (Nat.le_of_ble_eq_true rfl) (Nat.le_of_ble_eq_true rfl) (fun q_1 hnq_1 hbq_1 => ?_)
    refine jv_put (fs' := [.int (nI 0), .ref q_1, .int 0]) X dJ2_init_13 ((jv_up_n (new_ne hnq_1 jv_up_s)).trans jv_up_s) hfa (T := TJ2) (N := 3) (C := RJ2) rfl in_J2 tyJ2 tyJ2_ok nmJ2 1 (by decide) q164 rfl rfl  rfl rfl rfl (show 1 < 3 from by decide) rfl ?_
    refine jv_goto 60 X dJ2_init_16 (by decide) ?_
    exact jv_vret X dJ2_init_60 hQ (Nat.le_of_ble_eq_true rfl) (Nat.le_of_ble_eq_true rfl) ⟨q_1, (up_none hnq_1).1, hbq_1, by rw [jv_up_mid (up_none hnq_1).2]⟩
set_option maxHeartbeats 4000000 in
theorem c_J2_init6 {l : Launch} {G : jv_G} {M : jv_M} {σ : jk_A} (hG : jk_G G σ) {a : Nat} (ha : M a = some (.inr (20, [.int 0, .null, .int 0]))) (hfa : G.1 ≤ a)   : jv_Ct G l yJ2_init cJ2_init 2 (none) 3 1 6 70 [.ref a, .int (nI 6)] M (jv_qv G (fun M' => ∃ q, M q = none ∧ G.1 ≤ q ∧ M' = jv_up (jv_up M q (.inl (G.2.2.1 1, 6, .inr (.inr (.inr (.inr (fun _ => none))))))) a (.inr (20, [.int (nI 0), .ref q, .int 0])))) := by
  refine jv_Ct.of (lv := [(0, .ref a), (1, .int (nI 6))]) (by decide) (Nat.le_of_ble_eq_true rfl) rfl ?_
  intro x Q_ hl_ hQ X
  subst hl_
  refine jv_aload_n X dJ2_init_0 0 rfl ?_
  refine jv_callv (jv_runI (As := []) (rest := []) X dJ2_init_1 (c_J1_init ha hfa) (lw_meth q155) q93 q153 q154 rfl hd_J1_init (Nat.le_of_ble_eq_true rfl) (Nat.le_of_ble_eq_true rfl) (Nat.le_of_ble_eq_true rfl) (Nat.le_of_ble_eq_true rfl) rfl (Nat.le_of_ble_eq_true rfl)) (fun M_ h_ => ?_)
  rw [h_]
  clear h_
  refine jv_iload_n X dJ2_init_4 1 rfl ?_
  refine jn_if_le 19 X dJ2_init_5 (by decide) (by omega) (fun c5 => ?_) (fun c5 => ?_)
  · skip
    exact (absurd c5 (by decide))
  · skip
    refine jv_aload_n X dJ2_init_8 0 rfl ?_
    refine jv_iload_n X dJ2_init_9 1 rfl ?_
    refine jv_newq (N := 6) (k1 := 1) (n1 := 6) X dJ2_init_10 q160 (hG.f X).2.2.2.2.1 (by decide) rfl (by decide) rfl rfl (Nat.le_of_ble_eq_true rfl) (Nat.le_of_ble_eq_true rfl) (fun q_1 hnq_1 hbq_1 => ?_)
    refine jv_put (fs' := [.int (nI 0), .ref q_1, .int 0]) X dJ2_init_13 ((jv_up_n (new_ne hnq_1 jv_up_s)).trans jv_up_s) hfa (T := TJ2) (N := 3) (C := RJ2) rfl in_J2 tyJ2 tyJ2_ok nmJ2 1 (by decide) q164 rfl rfl  rfl rfl rfl (show 1 < 3 from by decide) rfl ?_
    refine jv_goto 60 X dJ2_init_16 (by decide) ?_
    exact jv_vret X dJ2_init_60 hQ (Nat.le_of_ble_eq_true rfl) (Nat.le_of_ble_eq_true rfl) ⟨q_1, (up_none hnq_1).1, hbq_1, by rw [jv_up_mid (up_none hnq_1).2]⟩
set_option maxHeartbeats 4000000 in
theorem c_J2_init30 {l : Launch} {G : jv_G} {M : jv_M} {σ : jk_A} (hG : jk_G G σ) {a : Nat} (ha : M a = some (.inr (20, [.int 0, .null, .int 0]))) (hfa : G.1 ≤ a)   : jv_Ct G l yJ2_init cJ2_init 2 (none) 3 1 30 70 [.ref a, .int (nI 30)] M (jv_qv G (fun M' => ∃ q, M q = none ∧ G.1 ≤ q ∧ M' = jv_up (jv_up M q (.inl (G.2.2.1 1, 30, .inr (.inr (.inr (.inr (fun _ => none))))))) a (.inr (20, [.int (nI 0), .ref q, .int 0])))) := by
  refine jv_Ct.of (lv := [(0, .ref a), (1, .int (nI 30))]) (by decide) (Nat.le_of_ble_eq_true rfl) rfl ?_
  intro x Q_ hl_ hQ X
  subst hl_
  refine jv_aload_n X dJ2_init_0 0 rfl ?_
  refine jv_callv (jv_runI (As := []) (rest := []) X dJ2_init_1 (c_J1_init ha hfa) (lw_meth q155) q93 q153 q154 rfl hd_J1_init (Nat.le_of_ble_eq_true rfl) (Nat.le_of_ble_eq_true rfl) (Nat.le_of_ble_eq_true rfl) (Nat.le_of_ble_eq_true rfl) rfl (Nat.le_of_ble_eq_true rfl)) (fun M_ h_ => ?_)
  rw [h_]
  clear h_
  refine jv_iload_n X dJ2_init_4 1 rfl ?_
  refine jn_if_le 19 X dJ2_init_5 (by decide) (by omega) (fun c5 => ?_) (fun c5 => ?_)
  · skip
    exact (absurd c5 (by decide))
  · skip
    refine jv_aload_n X dJ2_init_8 0 rfl ?_
    refine jv_iload_n X dJ2_init_9 1 rfl ?_
    refine jv_newq (N := 30) (k1 := 1) (n1 := 30) X dJ2_init_10 q160 (hG.f X).2.2.2.2.1 (by decide) rfl (by decide) rfl rfl (Nat.le_of_ble_eq_true rfl) (Nat.le_of_ble_eq_true rfl) (fun q_1 hnq_1 hbq_1 => ?_)
    refine jv_put (fs' := [.int (nI 0), .ref q_1, .int 0]) X dJ2_init_13 ((jv_up_n (new_ne hnq_1 jv_up_s)).trans jv_up_s) hfa (T := TJ2) (N := 3) (C := RJ2) rfl in_J2 tyJ2 tyJ2_ok nmJ2 1 (by decide) q164 rfl rfl  rfl rfl rfl (show 1 < 3 from by decide) rfl ?_
    refine jv_goto 60 X dJ2_init_16 (by decide) ?_
    exact jv_vret X dJ2_init_60 hQ (Nat.le_of_ble_eq_true rfl) (Nat.le_of_ble_eq_true rfl) ⟨q_1, (up_none hnq_1).1, hbq_1, by rw [jv_up_mid (up_none hnq_1).2]⟩
theorem hd_J8_init : jv_dd yJ8_init 1 := by unfold jv_dd; decide +kernel
set_option maxHeartbeats 4000000 in
theorem c_J8_init {l : Launch} {G : jv_G} {M : jv_M} {q a e n : Nat} {mc : Int32} (hq : M q = some (.inr (24, [.int 0, .int 0, .int 0, .null]))) (hfq : G.1 ≤ q) (ha : M a = some (.inr (20, [.int mc, .ref e, .int (nI n)])))   : jv_Ct G l yJ8_init cJ8_init 2 (none) 1 0 0 30 [.ref q, .ref a] M (jv_qv G (fun M' => M' = jv_up M q (.inr (24, [.int (nI 0), .int (-1), .int mc, .ref a])))) := by
  refine jv_Ct.of (lv := [(0, .ref q), (1, .ref a)]) (by decide) (Nat.le_of_ble_eq_true rfl) rfl ?_
  intro x Q_ hl_ hQ X
  subst hl_
  refine jv_aload_n X dJ8_init_0 0 rfl ?_
  refine jv_aload_n X dJ8_init_1 1 rfl ?_
  refine jv_putF (fs' := [.int 0, .int 0, .int 0, .ref a]) X dJ8_init_2 hq hfq (T := TJ8) (N := 4) (C := RJ8) rfl in_J8 tyJ8 tyJ8_ok nmJ8 3 (by decide) q306 rfl rfl rfl rfl rfl rfl rfl (show 3 < 4 from by decide) rfl ?_
  refine jv_aload_n X dJ8_init_5 0 rfl ?_
  refine jv_obj0 X dJ8_init_6 q302 (Nat.le_of_ble_eq_true rfl) (Nat.le_of_ble_eq_true rfl) ?_
  refine jv_aload_n X dJ8_init_9 0 rfl ?_
  refine jv_iconst (v := (-1)) X dJ8_init_10 rfl ?_
  refine jv_put (fs' := [.int 0, .int (-1), .int 0, .ref a]) X dJ8_init_11 jv_up_s hfq (T := TJ8) (N := 4) (C := RJ8) rfl in_J8 tyJ8 tyJ8_ok nmJ8 1 (by decide) q304 rfl rfl  rfl rfl rfl (show 1 < 4 from by decide) rfl ?_
  rw [jv_up_up]
  refine jv_aload_n X dJ8_init_14 0 rfl ?_
  refine jv_aload_n X dJ8_init_15 0 rfl ?_
  refine jv_get X dJ8_init_16 jv_up_s (T := TJ8) (N := 4) (C := RJ8) rfl in_J8 3 (by decide) q306 rfl rfl ?_
  refine jv_getS X dJ8_init_19 ((jv_up_n (ck_ne ha hq rfl)).trans ha) (T := TJ2) (N := 3) (C := RJ2) rfl in_J2 0 (by decide) q169 q170 rfl ?_
  refine jv_put (fs' := [.int 0, .int (-1), .int mc, .ref a]) X dJ8_init_22 jv_up_s hfq (T := TJ8) (N := 4) (C := RJ8) rfl in_J8 tyJ8 tyJ8_ok nmJ8 2 (by decide) q305 rfl rfl  rfl rfl rfl (show 2 < 4 from by decide) rfl ?_
  rw [jv_up_up]
  exact jv_vret X dJ8_init_25 hQ (Nat.le_of_ble_eq_true rfl) (Nat.le_of_ble_eq_true rfl) rfl
theorem hd_J2_iterator : jv_dd yJ2_iterator 0 := by unfold jv_dd; decide +kernel
set_option maxHeartbeats 4000000 in
theorem c_J2_iterator {l : Launch} {G : jv_G} {M : jv_M} {a e n : Nat} {mc : Int32} (ha : M a = some (.inr (20, [.int mc, .ref e, .int (nI n)])))   : jv_Ct G l yJ2_iterator cJ2_iterator 1 (some (.object "java/util/Iterator")) 2 1 4 51 [.ref a] M (jv_qr G (fun r M' => M r = none ∧ G.1 ≤ r ∧ M' = jv_up M r (.inr (24, [.int (nI 0), .int (-1), .int mc, .ref a])))) := by
  refine jv_Ct.of (lv := [(0, .ref a)]) (by decide) (Nat.le_of_ble_eq_true rfl) rfl ?_
  intro x Q_ hl_ hQ X
  subst hl_
  refine jv_new (k1 := 1) (n1 := 4) X dJ2_iterator_0 (T := TJ8) (N := 4) (C := RJ8) (fs := [.int 0, .int 0, .int 0, .null]) (ci := 24) rfl in_J8 tyJ8 tyJ8_ok q297 q298 q101 rfl rfl rfl (Nat.le_of_ble_eq_true rfl) (Nat.le_of_ble_eq_true rfl) (fun q_1 hnq_1 hbq_1 => ?_)
  refine jv_dup X dJ2_iterator_3 rfl ?_
  refine jv_aload_n X dJ2_iterator_4 0 rfl ?_
  refine jv_callv (jv_runI (As := [.ref a]) (rest := [.ref q_1]) X dJ2_iterator_5 (c_J8_init jv_up_s hbq_1 ((jv_up_n (new_ne hnq_1 ha)).trans ha)) (lw_meth q301) q101 q299 q300 rfl hd_J8_init (Nat.le_of_ble_eq_true rfl) (Nat.le_of_ble_eq_true rfl) (by omega) (by omega) rfl (Nat.le_of_ble_eq_true rfl)) (fun M_ h_ => ?_)
  rw [h_]
  clear h_
  rw [jv_up_up]
  exact jv_aret X dJ2_iterator_8 (by first | exact Or.inl ⟨_, rfl⟩ | exact Or.inr ⟨_, rfl⟩) hQ (Nat.le_of_ble_eq_true rfl) (Nat.le_of_ble_eq_true rfl) ⟨hnq_1, hbq_1, rfl⟩
theorem hd_J8_checkForComodification : jv_dd yJ8_checkForComodification 0 := by unfold jv_dd; decide +kernel
set_option maxHeartbeats 4000000 in
theorem c_J8_checkForComodification {l : Launch} {G : jv_G} {M : jv_M} {q a e n i : Nat} {mc lr : Int32} (hq : M q = some (.inr (24, [.int (nI i), .int lr, .int mc, .ref a]))) (ha : M a = some (.inr (20, [.int mc, .ref e, .int (nI n)])))   : jv_Ct G l yJ8_checkForComodification cJ8_checkForComodification 1 (none) 0 0 0 0 [.ref q] M (jv_qv G (fun M' => M' = M)) := by
  refine jv_Ct.of (lv := [(0, .ref q)]) (by decide) (Nat.le_of_ble_eq_true rfl) rfl ?_
  intro x Q_ hl_ hQ X
  subst hl_
  refine jv_aload_n X dJ8_checkForComodification_0 0 rfl ?_
  refine jv_get X dJ8_checkForComodification_1 hq (T := TJ8) (N := 4) (C := RJ8) rfl in_J8 3 (by decide) q306 rfl rfl ?_
  refine jv_getS X dJ8_checkForComodification_4 ha (T := TJ2) (N := 3) (C := RJ2) rfl in_J2 0 (by decide) q169 q170 rfl ?_
  refine jv_aload_n X dJ8_checkForComodification_7 0 rfl ?_
  refine jv_get X dJ8_checkForComodification_8 hq (T := TJ8) (N := 4) (C := RJ8) rfl in_J8 2 (by decide) q305 rfl rfl ?_
  refine jv_icmp_eq 22 X dJ8_checkForComodification_11 (by decide) (fun c11 => ?_) (fun c11 => ?_)
  · skip
    exact jv_vret X dJ8_checkForComodification_22 hQ (Nat.le_of_ble_eq_true rfl) (Nat.le_of_ble_eq_true rfl) rfl
  · skip
    exact (absurd rfl c11)
theorem hd_J8_hasNext : jv_dd yJ8_hasNext 0 := by unfold jv_dd; decide +kernel
set_option maxHeartbeats 4000000 in
theorem c_J8_hasNext {l : Launch} {G : jv_G} {M : jv_M} {q a e n i : Nat} {mc lr : Int32} (hq : M q = some (.inr (24, [.int (nI i), .int lr, .int mc, .ref a]))) (ha : M a = some (.inr (20, [.int mc, .ref e, .int (nI n)])))  (hi : i < 2 ^ 31) (hn : n < 2 ^ 31) : jv_Ct G l yJ8_hasNext cJ8_hasNext 1 (some .boolean) 0 0 0 0 [.ref q] M (jv_qi G (jv_pi (bI (if i = n then false else true)) M)) := by
  refine jv_Ct.of (lv := [(0, .ref q)]) (by decide) (Nat.le_of_ble_eq_true rfl) rfl ?_
  intro x Q_ hl_ hQ X
  subst hl_
  refine jv_aload_n X dJ8_hasNext_0 0 rfl ?_
  refine jv_get X dJ8_hasNext_1 hq (T := TJ8) (N := 4) (C := RJ8) rfl in_J8 0 (by decide) q303 rfl rfl ?_
  refine jv_aload_n X dJ8_hasNext_4 0 rfl ?_
  refine jv_get X dJ8_hasNext_5 hq (T := TJ8) (N := 4) (C := RJ8) rfl in_J8 3 (by decide) q306 rfl rfl ?_
  refine jv_getN X dJ8_hasNext_8 ha (T := TJ2) (N := 3) (C := RJ2) rfl in_J2 2 (by decide) q166 rfl rfl ?_
  have j19_1 : ∀ w : Bool, w = (if i = n then false else true) → jv_J x G 1 Q_ M 0 0 19 [(0, .ref q)] [.int (bI w)] := by
    intro w e_w
    exact jv_iret (v := bI w) X dJ8_hasNext_19 (bI_nar _) hQ (Nat.le_of_ble_eq_true rfl) (Nat.le_of_ble_eq_true rfl) ⟨(by rw [e_w]), rfl⟩
  refine jn_icmp_eq 18 X dJ8_hasNext_11 (by decide) (by omega) (by omega) (fun c11 => ?_) (fun c11 => ?_)
  · skip
    refine jv_iconst (v := nI 0) X dJ8_hasNext_18 rfl ?_
    exact j19_1 _ (if_pos c11).symm
  · skip
    refine jv_iconst (v := nI 1) X dJ8_hasNext_14 rfl ?_
    refine jv_goto 19 X dJ8_hasNext_15 (by decide) ?_
    exact j19_1 _ (if_neg c11).symm
theorem hd_J8_next : jv_dd yJ8_next 0 := by unfold jv_dd; decide +kernel
set_option maxHeartbeats 4000000 in
theorem c_J8_next {l : Launch} {G : jv_G} {M : jv_M} {q a e n i : Nat} {mc lr : Int32} (hq : M q = some (.inr (24, [.int (nI i), .int lr, .int mc, .ref a]))) (ha : M a = some (.inr (20, [.int mc, .ref e, .int (nI n)]))) {N : Nat} {f : Nat → Option Nat} (he : M e = some (.inl (G.2.2.1 1, N, .inr (.inr (.inr (.inr f)))))) (x_ : Nat) (hfq : G.1 ≤ q) (hi : i < n) (hn : n ≤ N) (hN : N < 2 ^ 31) (hx : va_rf (f i) = .ref x_) : jv_Ct G l yJ8_next cJ8_next 3 (some (.object "java/lang/Object")) 1 0 0 20 [.ref q] M (jv_qr G (fun r M' => r = x_ ∧ M' = jv_up M q (.inr (24, [.int (nI (i + 1)), .int (nI i), .int mc, .ref a])))) := by
  refine jv_Ct.of (lv := [(0, .ref q)]) (by decide) (Nat.le_of_ble_eq_true rfl) rfl ?_
  intro x Q_ hl_ hQ X
  subst hl_
  refine jv_aload_n X dJ8_next_0 0 rfl ?_
  refine jv_callv (jv_runV (As := []) (rest := []) X dJ8_next_1 (c_J8_checkForComodification hq ha) (lw_V q335 q336 q337 q101 q338) hd_J8_checkForComodification hq rfl (Nat.le_of_ble_eq_true rfl) (Nat.le_of_ble_eq_true rfl) (Nat.le_of_ble_eq_true rfl) (Nat.le_of_ble_eq_true rfl) rfl (Nat.le_of_ble_eq_true rfl)) (fun M_ h_ => ?_)
  rw [h_]
  refine jv_aload_n X dJ8_next_4 0 rfl ?_
  refine jv_get X dJ8_next_5 hq (T := TJ8) (N := 4) (C := RJ8) rfl in_J8 0 (by decide) q303 rfl rfl ?_
  refine jv_istore_n (lv' := [(1, .int (nI i)), (0, .ref q)]) X dJ8_next_8 rfl (by decide) rfl ?_
  refine jv_iload_n X dJ8_next_9 0 rfl ?_
  refine jv_aload_n X dJ8_next_10 1 rfl ?_
  refine jv_get X dJ8_next_11 hq (T := TJ8) (N := 4) (C := RJ8) rfl in_J8 3 (by decide) q306 rfl rfl ?_
  refine jv_getN X dJ8_next_14 ha (T := TJ2) (N := 3) (C := RJ2) rfl in_J2 2 (by decide) q166 rfl rfl ?_
  refine jn_icmp_lt 28 X dJ8_next_17 (by decide) (by omega) (by omega) (fun c17 => ?_) (fun c17 => ?_)
  · skip
    refine jv_aload_n X dJ8_next_28 1 rfl ?_
    refine jv_get X dJ8_next_29 hq (T := TJ8) (N := 4) (C := RJ8) rfl in_J8 3 (by decide) q306 rfl rfl ?_
    refine jv_get X dJ8_next_32 ha (T := TJ2) (N := 3) (C := RJ2) rfl in_J2 1 (by decide) q165 rfl rfl ?_
    refine jv_astore_n (lv' := [(2, .ref e), (1, .int (nI i)), (0, .ref q)]) X dJ8_next_35 rfl (by decide) rfl ?_
    refine jv_iload_n X dJ8_next_36 1 rfl ?_
    refine jv_aload_n X dJ8_next_37 0 rfl ?_
    refine jv_alen (t0 := 1) (v := nI N) X dJ8_next_38 he rfl rfl ?_
    refine jn_icmp_lt 50 X dJ8_next_39 (by decide) (by omega) (by omega) (fun c39 => ?_) (fun c39 => ?_)
    · skip
      refine jv_aload_n X dJ8_next_50 2 rfl ?_
      refine jv_iload_n X dJ8_next_51 1 rfl ?_
      refine jv_iconst (v := nI 1) X dJ8_next_52 rfl ?_
      refine jv_iadd (w := nI (i + 1)) X dJ8_next_53 (nI_add _ _) ?_
      refine jv_put (fs' := [.int (nI (i + 1)), .int lr, .int mc, .ref a]) X dJ8_next_54 hq hfq (T := TJ8) (N := 4) (C := RJ8) rfl in_J8 tyJ8 tyJ8_ok nmJ8 0 (by decide) q303 rfl rfl  rfl rfl rfl (show 0 < 4 from by decide) rfl ?_
      refine jv_aload_n X dJ8_next_57 0 rfl ?_
      refine jv_aload_n X dJ8_next_58 2 rfl ?_
      refine jv_iload_n X dJ8_next_59 1 rfl ?_
      refine jv_dup_x1 X dJ8_next_60 rfl rfl ?_
      refine jv_put (fs' := [.int (nI (i + 1)), .int (nI i), .int mc, .ref a]) X dJ8_next_61 jv_up_s hfq (T := TJ8) (N := 4) (C := RJ8) rfl in_J8 tyJ8 tyJ8_ok nmJ8 1 (by decide) q304 rfl rfl  rfl rfl rfl (show 1 < 4 from by decide) rfl ?_
      rw [jv_up_up]
      refine jv_aald (v := .ref x_) X dJ8_next_64 ((jv_up_n (ck_ne he hq rfl)).trans he) (jn_in (by omega) (by omega)) (by rw [nI_clamp (by omega)]; exact hx) ?_
      exact jv_aret X dJ8_next_65 (by first | exact Or.inl ⟨_, rfl⟩ | exact Or.inr ⟨_, rfl⟩) hQ (Nat.le_of_ble_eq_true rfl) (Nat.le_of_ble_eq_true rfl) ⟨rfl, rfl⟩
    · skip
      exact (absurd (Nat.lt_of_lt_of_le hi hn) (by omega))
  · skip
    exact (absurd hi (by omega))
