/-! JDK, first -/
set_option maxRecDepth 100000
theorem ni_255 : ∀ n, n < 128 → nI n &&& nI 255 = nI n := by decide +kernel
theorem ni_nc : ∀ {n : Nat}, n < 128 → narrow FieldType.char (Value.int (nI n)) = Value.int (nI n) := fun {n} h => (by decide +kernel : ∀ n, n < 128 → narrow FieldType.char (Value.int (nI n)) = Value.int (nI n)) n h
theorem ni_c : ∀ {n : Nat}, n < 128 → ((nI n).toUInt32 % 65536).toInt32 = nI n := fun {n} h => (by decide +kernel : ∀ n, n < 128 → ((nI n).toUInt32 % 65536).toInt32 = nI n) n h
theorem hd_J13_checkIndex : jv_dd yJ13_checkIndex 3 := by unfold jv_dd; decide +kernel
set_option maxHeartbeats 4000000 in
theorem c_J13_checkIndex {l : Launch} {G : jv_G} {M : jv_M} (j : Nat) (n : Nat)  (hj : j < n) (hn : n < 2 ^ 31) : jv_Ct G l yJ13_checkIndex cJ13_checkIndex 3 (some .int) 0 0 0 0 [.int (nI j), .int (nI n), .null] M (jv_qi G (jv_pi (nI j) M)) := by
  refine jv_Ct.of (lv := [(0, .int (nI j)), (1, .int (nI n)), (2, .null)]) (by decide) (Nat.le_of_ble_eq_true rfl) rfl ?_
  intro x Q_ hl_ hQ X
  subst hl_
  refine jv_iload_n X dJ13_checkIndex_0 0 rfl ?_
  refine jn_if_lt X dJ13_checkIndex_1 9 (by decide) (by omega) ?_
  refine jv_iload_n X dJ13_checkIndex_4 0 rfl ?_
  refine jv_iload_n X dJ13_checkIndex_5 1 rfl ?_
  refine jn_icmp_lt 16 X dJ13_checkIndex_6 (by decide) (by omega) (by omega) (fun c6 => ?_) (fun c6 => ?_)
  · skip
    refine jv_iload_n X dJ13_checkIndex_16 0 rfl ?_
    exact jv_iret (v := nI j) X dJ13_checkIndex_17 rfl hQ (Nat.le_of_ble_eq_true rfl) (Nat.le_of_ble_eq_true rfl) ⟨rfl, rfl⟩
  · skip
    exact (absurd hj (by omega))
set_option maxHeartbeats 4000000 in
theorem c_J13_checkIndexR {l : Launch} {G : jv_G} {M : jv_M} (j : Nat) (n : Nat) (t : Nat) (hj : j < n) (hn : n < 2 ^ 31) : jv_Ct G l yJ13_checkIndex cJ13_checkIndex 3 (some .int) 0 0 0 0 [.int (nI j), .int (nI n), .ref t] M (jv_qi G (jv_pi (nI j) M)) := by
  refine jv_Ct.of (lv := [(0, .int (nI j)), (1, .int (nI n)), (2, .ref t)]) (by decide) (Nat.le_of_ble_eq_true rfl) rfl ?_
  intro x Q_ hl_ hQ X
  subst hl_
  refine jv_iload_n X dJ13_checkIndex_0 0 rfl ?_
  refine jn_if_lt X dJ13_checkIndex_1 9 (by decide) (by omega) ?_
  refine jv_iload_n X dJ13_checkIndex_4 0 rfl ?_
  refine jv_iload_n X dJ13_checkIndex_5 1 rfl ?_
  refine jn_icmp_lt 16 X dJ13_checkIndex_6 (by decide) (by omega) (by omega) (fun c6 => ?_) (fun c6 => ?_)
  · skip
    refine jv_iload_n X dJ13_checkIndex_16 0 rfl ?_
    exact jv_iret (v := nI j) X dJ13_checkIndex_17 rfl hQ (Nat.le_of_ble_eq_true rfl) (Nat.le_of_ble_eq_true rfl) ⟨rfl, rfl⟩
  · skip
    exact (absurd hj (by omega))
theorem hd_J12_checkIndex : jv_dd yJ12_checkIndex 2 := by unfold jv_dd; decide +kernel
set_option maxHeartbeats 4000000 in
theorem c_J12_checkIndex {l : Launch} {G : jv_G} {M : jv_M} (j : Nat) (n : Nat) (hj : j < n) (hn : n < 2 ^ 31) : jv_Ct G l yJ12_checkIndex cJ12_checkIndex 2 (some .int) 1 0 0 22 [.int (nI j), .int (nI n)] M (jv_qi G (jv_pi (nI j) M)) := by
  refine jv_Ct.of (lv := [(0, .int (nI j)), (1, .int (nI n))]) (by decide) (Nat.le_of_ble_eq_true rfl) rfl ?_
  intro x Q_ hl_ hQ X
  subst hl_
  refine jv_iload_n X dJ12_checkIndex_0 0 rfl ?_
  refine jv_iload_n X dJ12_checkIndex_1 1 rfl ?_
  refine jv_null X dJ12_checkIndex_2 ?_
  refine jv_ask (jv_runS (As := [.int (nI j), .int (nI n), .null]) (rest := []) X dJ12_checkIndex_3 (c_J13_checkIndex j n  (by omega) (by omega)) (lw_S q539 q540 q108 q541) hd_J13_checkIndex (Nat.le_of_ble_eq_true rfl) (Nat.le_of_ble_eq_true rfl) (Nat.le_of_ble_eq_true rfl) (Nat.le_of_ble_eq_true rfl) rfl (Nat.le_of_ble_eq_true rfl)) ?_
  exact jv_iret (v := nI j) X dJ12_checkIndex_6 rfl hQ (Nat.le_of_ble_eq_true rfl) (Nat.le_of_ble_eq_true rfl) ⟨rfl, rfl⟩
theorem hd_J5_checkIndex : jv_dd yJ5_checkIndex 2 := by unfold jv_dd; decide +kernel
set_option maxHeartbeats 4000000 in
theorem c_J5_checkIndex {l : Launch} {G : jv_G} {M : jv_M} {σ : jk_A} (hG : jk_G G σ) (j : Nat) (n : Nat) (hj : j < n) (hn : n < 2 ^ 31) : jv_Ct G l yJ5_checkIndex cJ5_checkIndex 2 (none) 1 0 0 22 [.int (nI j), .int (nI n)] M (jv_qv G (fun M' => M' = M)) := by
  refine jv_Ct.of (lv := [(0, .int (nI j)), (1, .int (nI n))]) (by decide) (Nat.le_of_ble_eq_true rfl) rfl ?_
  intro x Q_ hl_ hQ X
  subst hl_
  refine jv_iload_n X dJ5_checkIndex_0 0 rfl ?_
  refine jv_iload_n X dJ5_checkIndex_1 1 rfl ?_
  rcases (hG.f X).sio with hz_1 | ⟨t_hz_1, hz_1⟩
  · skip
    refine jv_gets (v := .null) X dJ5_checkIndex_2 hz_1 q1502 ?_
    refine jv_ask (jv_runS (As := [.int (nI j), .int (nI n), .null]) (rest := []) X dJ5_checkIndex_5 (c_J13_checkIndex j n  (by omega) (by omega)) (lw_S q1525 q540 q108 q541) hd_J13_checkIndex (Nat.le_of_ble_eq_true rfl) (Nat.le_of_ble_eq_true rfl) (Nat.le_of_ble_eq_true rfl) (Nat.le_of_ble_eq_true rfl) rfl (Nat.le_of_ble_eq_true rfl)) ?_
    refine jv_pop X dJ5_checkIndex_8 rfl ?_
    exact jv_vret X dJ5_checkIndex_9 hQ (Nat.le_of_ble_eq_true rfl) (Nat.le_of_ble_eq_true rfl) rfl
  · skip
    refine jv_gets (v := .ref t_hz_1) X dJ5_checkIndex_2 hz_1 q1502 ?_
    refine jv_ask (jv_runS (As := [.int (nI j), .int (nI n), .ref t_hz_1]) (rest := []) X dJ5_checkIndex_5 (c_J13_checkIndexR j n t_hz_1 (by omega) (by omega)) (lw_S q1525 q540 q108 q541) hd_J13_checkIndex (Nat.le_of_ble_eq_true rfl) (Nat.le_of_ble_eq_true rfl) (Nat.le_of_ble_eq_true rfl) (Nat.le_of_ble_eq_true rfl) rfl (Nat.le_of_ble_eq_true rfl)) ?_
    refine jv_pop X dJ5_checkIndex_8 rfl ?_
    exact jv_vret X dJ5_checkIndex_9 hQ (Nat.le_of_ble_eq_true rfl) (Nat.le_of_ble_eq_true rfl) rfl
theorem hd_J16_charAt : jv_dd yJ16_charAt 2 := by unfold jv_dd; decide +kernel
set_option maxHeartbeats 4000000 in
theorem c_J16_charAt {l : Launch} {G : jv_G} {M : jv_M} {σ : jk_A} (hG : jk_G G σ) {b N : Nat} {g : Nat → Nat} (hb : jbar G σ M b N (fun j => nI (g j))) (hg : ∀ j, j < N → g j < 128) (hN : N < 2 ^ 20) (j : Nat) (hj : j < N) : jv_Ct G l yJ16_charAt cJ16_charAt 2 (some .char) 2 0 0 43 [.ref b, .int (nI j)] M (jv_qi G (jv_pi (nI (g j)) M)) := by
  refine jv_Ct.of (lv := [(0, .ref b), (1, .int (nI j))]) (by decide) (Nat.le_of_ble_eq_true rfl) rfl ?_
  intro x Q_ hl_ hQ X
  subst hl_
  refine jv_iload_n X dJ16_charAt_0 1 rfl ?_
  refine jv_aload_n X dJ16_charAt_1 0 rfl ?_
  refine jv_barl X dJ16_charAt_2 hG hb ?_
  refine jv_callv (jv_runS (As := [.int (nI j), .int (nI N)]) (rest := []) X dJ16_charAt_3 (c_J5_checkIndex hG j N (by omega) (by omega)) (lw_S q1594 q1523 q97 q1524) hd_J5_checkIndex (Nat.le_of_ble_eq_true rfl) (Nat.le_of_ble_eq_true rfl) (Nat.le_of_ble_eq_true rfl) (Nat.le_of_ble_eq_true rfl) rfl (Nat.le_of_ble_eq_true rfl)) (fun M_ h_ => ?_)
  rw [h_]
  refine jv_aload_n X dJ16_charAt_6 0 rfl ?_
  refine jv_iload_n X dJ16_charAt_7 1 rfl ?_
  refine jv_bard (v := nI (g j)) X dJ16_charAt_8 hG hb (by omega) (by omega) rfl ?_
  refine jv_sipush (v := nI 255) X dJ16_charAt_9 rfl ?_
  refine jv_iand (w := nI (g j)) X dJ16_charAt_12 (ni_255 _ (hg j hj)) ?_
  refine jv_i2c (w := nI (g j)) X dJ16_charAt_13 (ni_c (hg j hj)) ?_
  exact jv_iret (v := nI (g j)) X dJ16_charAt_14 (ni_nc (hg j hj)) hQ (Nat.le_of_ble_eq_true rfl) (Nat.le_of_ble_eq_true rfl) ⟨rfl, rfl⟩
theorem hd_J5_coder : jv_dd yJ5_coder 0 := by unfold jv_dd; decide +kernel
set_option maxHeartbeats 4000000 in
theorem c_J5_coder {l : Launch} {G : jv_G} {M : jv_M} {σ : jk_A} (hG : jk_G G σ) {s b N : Nat} {g : Nat → Nat} (hs : jstr G σ M s b N g)   : jv_Ct G l yJ5_coder cJ5_coder 1 (some .byte) 0 0 0 0 [.ref s] M (jv_qi G (jv_pi (nI 0) M)) := by
  refine jv_Ct.of (lv := [(0, .ref s)]) (by decide) (Nat.le_of_ble_eq_true rfl) rfl ?_
  intro x Q_ hl_ hQ X
  subst hl_
  refine jv_gets (v := .int (nI 1)) X dJ5_coder_0 (hG.f X).cs q1573 ?_
  refine jn_if_eq 13 X dJ5_coder_3 (by decide) (by omega) (fun c3 => ?_) (fun c3 => ?_)
  · skip
    exact (absurd c3 (by decide))
  · skip
    refine jv_aload_n X dJ5_coder_6 0 rfl ?_
    refine jv_strC X dJ5_coder_7 hG hs q1931 ?_
    refine jv_goto 14 X dJ5_coder_10 (by decide) ?_
    exact jv_iret (v := nI 0) X dJ5_coder_14 rfl hQ (Nat.le_of_ble_eq_true rfl) (Nat.le_of_ble_eq_true rfl) ⟨rfl, rfl⟩
theorem hd_J5_isLatin1 : jv_dd yJ5_isLatin1 0 := by unfold jv_dd; decide +kernel
set_option maxHeartbeats 4000000 in
theorem c_J5_isLatin1 {l : Launch} {G : jv_G} {M : jv_M} {σ : jk_A} (hG : jk_G G σ) {s b N : Nat} {g : Nat → Nat} (hs : jstr G σ M s b N g)   : jv_Ct G l yJ5_isLatin1 cJ5_isLatin1 1 (some .boolean) 0 0 0 0 [.ref s] M (jv_qi G (jv_pi (bI true) M)) := by
  refine jv_Ct.of (lv := [(0, .ref s)]) (by decide) (Nat.le_of_ble_eq_true rfl) rfl ?_
  intro x Q_ hl_ hQ X
  subst hl_
  refine jv_gets (v := .int (nI 1)) X dJ5_isLatin1_0 (hG.f X).cs q1573 ?_
  refine jn_if_eq 17 X dJ5_isLatin1_3 (by decide) (by omega) (fun c3 => ?_) (fun c3 => ?_)
  · skip
    exact (absurd c3 (by decide))
  · skip
    refine jv_aload_n X dJ5_isLatin1_6 0 rfl ?_
    refine jv_strC X dJ5_isLatin1_7 hG hs q1931 ?_
    refine jn_if_ne 17 X dJ5_isLatin1_10 (by decide) (by omega) (fun c10 => ?_) (fun c10 => ?_)
    · skip
      exact (absurd rfl c10)
    · skip
      refine jv_iconst (v := nI 1) X dJ5_isLatin1_13 rfl ?_
      refine jv_goto 18 X dJ5_isLatin1_14 (by decide) ?_
      exact jv_iret (v := bI true) X dJ5_isLatin1_18 (bI_nar _) hQ (Nat.le_of_ble_eq_true rfl) (Nat.le_of_ble_eq_true rfl) ⟨rfl, rfl⟩
theorem hd_J5_length : jv_dd yJ5_length 0 := by unfold jv_dd; decide +kernel
set_option maxHeartbeats 4000000 in
theorem c_J5_length {l : Launch} {G : jv_G} {M : jv_M} {σ : jk_A} (hG : jk_G G σ) {s b N : Nat} {g : Nat → Nat} (hs : jstr G σ M s b N g)   : jv_Ct G l yJ5_length cJ5_length 1 (some .int) 1 0 0 20 [.ref s] M (jv_qi G (jv_pi (nI N) M)) := by
  refine jv_Ct.of (lv := [(0, .ref s)]) (by decide) (Nat.le_of_ble_eq_true rfl) rfl ?_
  intro x Q_ hl_ hQ X
  subst hl_
  have hn_ := hs.nl
  refine jv_aload_n X dJ5_length_0 0 rfl ?_
  refine jv_strV X dJ5_length_1 hG hs q1930 ?_
  refine jv_barl X dJ5_length_4 hG hs.bar ?_
  refine jv_aload_n X dJ5_length_5 0 rfl ?_
  refine jv_ask (jv_runVs (As := []) (rest := [.int (nI N)]) X dJ5_length_6 hG hs rfl (c_J5_coder hG hs) (lw_V q1569 q1570 q1571 q97 q1572) hd_J5_coder (Nat.le_of_ble_eq_true rfl) (Nat.le_of_ble_eq_true rfl) (Nat.le_of_ble_eq_true rfl) (Nat.le_of_ble_eq_true rfl) rfl (Nat.le_of_ble_eq_true rfl)) ?_
  refine jv_ishr (w := nI N) X dJ5_length_9 ((ni_shr (by omega) (by decide)).trans (by rw [Nat.pow_zero, Nat.div_one])) ?_
  exact jv_iret (v := nI N) X dJ5_length_10 rfl hQ (Nat.le_of_ble_eq_true rfl) (Nat.le_of_ble_eq_true rfl) ⟨rfl, rfl⟩
theorem hd_J5_charAt : jv_dd yJ5_charAt 1 := by unfold jv_dd; decide +kernel
set_option maxHeartbeats 4000000 in
theorem c_J5_charAt {l : Launch} {G : jv_G} {M : jv_M} {σ : jk_A} (hG : jk_G G σ) {s b N : Nat} {g : Nat → Nat} (hs : jstr G σ M s b N g) (j : Nat) (hj : j < N) : jv_Ct G l yJ5_charAt cJ5_charAt 2 (some .char) 3 0 0 64 [.ref s, .int (nI j)] M (jv_qi G (jv_pi (nI (g j)) M)) := by
  refine jv_Ct.of (lv := [(0, .ref s), (1, .int (nI j))]) (by decide) (Nat.le_of_ble_eq_true rfl) rfl ?_
  intro x Q_ hl_ hQ X
  subst hl_
  refine jv_aload_n X dJ5_charAt_0 0 rfl ?_
  refine jv_ask (jv_runVs (As := []) (rest := []) X dJ5_charAt_1 hG hs rfl (c_J5_isLatin1 hG hs) (lw_V q1587 q1588 q1589 q97 q1590) hd_J5_isLatin1 (Nat.le_of_ble_eq_true rfl) (Nat.le_of_ble_eq_true rfl) (Nat.le_of_ble_eq_true rfl) (Nat.le_of_ble_eq_true rfl) rfl (Nat.le_of_ble_eq_true rfl)) ?_
  refine jb_if_eq 16 X dJ5_charAt_4 (by decide) (fun c4 => ?_) (fun c4 => ?_)
  · skip
    exact (absurd c4 (by decide))
  · skip
    refine jv_aload_n X dJ5_charAt_7 0 rfl ?_
    refine jv_strV X dJ5_charAt_8 hG hs q1930 ?_
    refine jv_iload_n X dJ5_charAt_11 1 rfl ?_
    refine jv_ask (jv_runS (As := [.ref b, .int (nI j)]) (rest := []) X dJ5_charAt_12 (c_J16_charAt hG hs.bar hs.2.1 hs.2.2 j (by omega)) (lw_S q1591 q1592 q127 q1593) hd_J16_charAt (Nat.le_of_ble_eq_true rfl) (Nat.le_of_ble_eq_true rfl) (Nat.le_of_ble_eq_true rfl) (Nat.le_of_ble_eq_true rfl) rfl (Nat.le_of_ble_eq_true rfl)) ?_
    exact jv_iret (v := nI (g j)) X dJ5_charAt_15 (ni_nc (hs.lt hj)) hQ (Nat.le_of_ble_eq_true rfl) (Nat.le_of_ble_eq_true rfl) ⟨rfl, rfl⟩
