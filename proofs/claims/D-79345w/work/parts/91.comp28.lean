/-! queues -/
set_option maxRecDepth 100000
/-- the place of the i-th of a queue whose first is at h, of 17 places -/
def dqi (h i : Nat) : Nat := if h + i < 17 then h + i else h + i - 17
theorem dqi_lt {h i : Nat} (hh : h < 17) (hi : i < 17) : dqi h i < 17 := by unfold dqi; split <;> omega
theorem dqi_s {h i : Nat} (hh : h < 17) (hi : i < 17) : dqi h (i + 1) = (if dqi h i + 1 < 17 then dqi h i + 1 else 0) := by
  unfold dqi
  repeat' split
  all_goals omega
theorem dqi_inj {h i j : Nat} (hh : h < 17) (hi : i < 17) (hj : j < 17) (e : dqi h i = dqi h j) : i = j := by
  unfold dqi at e
  repeat' split at e
  all_goals omega
/-- a queue: its first at h, n in it -/
def jdq (G : jv_G) (M : jv_M) (a e h n : Nat) (f : Nat → Option Nat) (Q : Nat → Nat) : Prop := M a = some (.inr (23, [.ref e, .int (nI h), .int (nI (dqi h n))])) ∧ M e = some (.inl (G.2.2.1 1, 17, .inr (.inr (.inr (.inr f))))) ∧ (G.1 ≤ a ∧ G.1 ≤ e) ∧ h < 17 ∧ n ≤ 9 ∧ ∀ i, i < n → f (dqi h i) = some (Q i)
theorem dq_dec1 : ∀ {i : Nat}, i < 17 → 0 ≤ nI i - nI 1 → nI i - nI 1 = nI (if i = 0 then 16 else i - 1) := by
  have : ∀ i, i < 17 → 0 ≤ nI i - nI 1 → nI i - nI 1 = nI (if i = 0 then 16 else i - 1) := by decide +kernel
  exact fun {i} hi => this i hi
theorem dq_dec0 : ∀ {i : Nat}, i < 17 → ¬ 0 ≤ nI i - nI 1 → nI (17 - 1) = nI (if i = 0 then 16 else i - 1) := by
  have : ∀ i, i < 17 → ¬ 0 ≤ nI i - nI 1 → nI (17 - 1) = nI (if i = 0 then 16 else i - 1) := by decide +kernel
  exact fun {i} hi => this i hi
theorem dq_pd {h n : Nat} (hh : h < 17) (h1 : 1 ≤ n) (hn : n < 17) : (if (if h + n < 17 then h + n else h + n - 17) = 0 then 16 else (if h + n < 17 then h + n else h + n - 17) - 1) = (if h + (n - 1) < 17 then h + (n - 1) else h + (n - 1) - 17) := by
  repeat' split
  all_goals omega
theorem dq_sub0 : ∀ {i j : Nat}, i < 17 → j < 17 → 0 ≤ nI i - nI j → nI i - nI j = nI (if j ≤ i then i - j else i + 17 - j) := by
  have : ∀ i, i < 17 → ∀ j, j < 17 → 0 ≤ nI i - nI j → nI i - nI j = nI (if j ≤ i then i - j else i + 17 - j) := by decide +kernel
  exact fun {i j} hi hj => this i hi j hj
theorem dq_sub1 : ∀ {i j : Nat}, i < 17 → j < 17 → ¬ 0 ≤ nI i - nI j → nI i - nI j + nI 17 = nI (if j ≤ i then i - j else i + 17 - j) := by
  have : ∀ i, i < 17 → ∀ j, j < 17 → ¬ 0 ≤ nI i - nI j → nI i - nI j + nI 17 = nI (if j ≤ i then i - j else i + 17 - j) := by decide +kernel
  exact fun {i j} hi hj => this i hi j hj
theorem dq_n {h n : Nat} (hh : h < 17) (hn : n < 17) : (if h ≤ (if h + n < 17 then h + n else h + n - 17) then (if h + n < 17 then h + n else h + n - 17) - h else (if h + n < 17 then h + n else h + n - 17) + 17 - h) = n := by
  repeat' split
  all_goals omega
theorem dq_e {h n : Nat} (hh : h < 17) (hn : n < 17) : h = (if h + n < 17 then h + n else h + n - 17) ↔ n = 0 := by
  split <;> omega
theorem hd_J7_inc : jv_dd yJ7_inc 2 := by unfold jv_dd; decide +kernel
set_option maxHeartbeats 4000000 in
theorem c_J7_inc {l : Launch} {G : jv_G} {M : jv_M} (i : Nat) (hi : i < 17) : jv_Ct G l yJ7_inc cJ7_inc 2 (some .int) 0 0 0 0 [.int (nI i), .int (nI 17)] M (jv_qi G (jv_pi (nI (if i + 1 < 17 then i + 1 else 0)) M)) := by
  refine jv_Ct.of (lv := [(0, .int (nI i)), (1, .int (nI 17))]) (by decide) (Nat.le_of_ble_eq_true rfl) rfl ?_
  intro x Q_ hl_ hQ X
  subst hl_
  refine jv_iinc (v := nI (i + 1)) (lv' := [(0, .int (nI (i + 1))), (1, .int (nI 17))]) X dJ7_inc_0 0 rfl (nI_1 _) (by decide) rfl ?_
  refine jv_iload_n X dJ7_inc_3 0 rfl ?_
  refine jv_iload_n X dJ7_inc_4 1 rfl ?_
  refine jn_icmp_lt 10 X dJ7_inc_5 (by decide) (by omega) (by decide) (fun c5 => ?_) (fun c5 => ?_)
  · skip
    refine jv_iload_n X dJ7_inc_10 0 rfl ?_
    exact jv_iret (v := nI (i + 1)) X dJ7_inc_11 rfl hQ (Nat.le_of_ble_eq_true rfl) (Nat.le_of_ble_eq_true rfl) ⟨(congrArg nI (by rw [if_pos (by omega)])), rfl⟩
  · skip
    refine jv_iconst (v := nI 0) X dJ7_inc_8 rfl ?_
    refine jv_istore_n (lv' := [(0, .int (nI 0)), (1, .int (nI 17))]) X dJ7_inc_9 rfl (by decide) rfl ?_
    refine jv_iload_n X dJ7_inc_10 0 rfl ?_
    exact jv_iret (v := nI 0) X dJ7_inc_11 rfl hQ (Nat.le_of_ble_eq_true rfl) (Nat.le_of_ble_eq_true rfl) ⟨(congrArg nI (by rw [if_neg (by omega)])), rfl⟩
theorem hd_J7_sub : jv_dd yJ7_sub 3 := by unfold jv_dd; decide +kernel
set_option maxHeartbeats 4000000 in
theorem c_J7_sub {l : Launch} {G : jv_G} {M : jv_M} (i : Nat) (j : Nat) (hi : i < 17) (hj : j < 17) : jv_Ct G l yJ7_sub cJ7_sub 3 (some .int) 0 0 0 0 [.int (nI i), .int (nI j), .int (nI 17)] M (jv_qi G (jv_pi (nI (if j ≤ i then i - j else i + 17 - j)) M)) := by
  refine jv_Ct.of (lv := [(0, .int (nI i)), (1, .int (nI j)), (2, .int (nI 17))]) (by decide) (Nat.le_of_ble_eq_true rfl) rfl ?_
  intro x Q_ hl_ hQ X
  subst hl_
  refine jv_iload_n X dJ7_sub_0 0 rfl ?_
  refine jv_iload_n X dJ7_sub_1 1 rfl ?_
  refine jv_isub (w := nI i - nI j) X dJ7_sub_2 rfl ?_
  refine jv_dup X dJ7_sub_3 rfl ?_
  refine jv_istore_n (lv' := [(0, .int (nI i - nI j)), (1, .int (nI j)), (2, .int (nI 17))]) X dJ7_sub_4 rfl (by decide) rfl ?_
  refine jv_if_ge 12 X dJ7_sub_5 (by decide) (fun c5 => ?_) (fun c5 => ?_)
  · skip
    refine jv_iload_n X dJ7_sub_12 0 rfl ?_
    exact jv_iret (v := nI i - nI j) X dJ7_sub_13 rfl hQ (Nat.le_of_ble_eq_true rfl) (Nat.le_of_ble_eq_true rfl) ⟨(dq_sub0 hi hj c5), rfl⟩
  · skip
    refine jv_iload_n X dJ7_sub_8 0 rfl ?_
    refine jv_iload_n X dJ7_sub_9 2 rfl ?_
    refine jv_iadd (w := nI i - nI j + nI 17) X dJ7_sub_10 rfl ?_
    refine jv_istore_n (lv' := [(0, .int (nI i - nI j + nI 17)), (1, .int (nI j)), (2, .int (nI 17))]) X dJ7_sub_11 rfl (by decide) rfl ?_
    refine jv_iload_n X dJ7_sub_12 0 rfl ?_
    exact jv_iret (v := nI i - nI j + nI 17) X dJ7_sub_13 rfl hQ (Nat.le_of_ble_eq_true rfl) (Nat.le_of_ble_eq_true rfl) ⟨(dq_sub1 hi hj c5), rfl⟩
theorem hd_J7_size : jv_dd yJ7_size 0 := by unfold jv_dd; decide +kernel
set_option maxHeartbeats 4000000 in
theorem c_J7_size {l : Launch} {G : jv_G} {M : jv_M} {σ : jk_A} (hG : jk_G G σ) {a e h n : Nat} {f : Nat → Option Nat} {Q : Nat → Nat} (hq : jdq G M a e h n f Q)   : jv_Ct G l yJ7_size cJ7_size 1 (some .int) 1 0 0 22 [.ref a] M (jv_qi G (jv_pi (nI n) M)) := by
  refine jv_Ct.of (lv := [(0, .ref a)]) (by decide) (Nat.le_of_ble_eq_true rfl) rfl ?_
  intro x Q_ hl_ hQ X
  subst hl_
  obtain ⟨ha, he, ⟨hfa, hfe⟩, hh, hn9, hQ1⟩ := id hq
  have hdl_ := dqi_lt (h := h) (i := n) hh (by omega)
  refine jv_aload_n X dJ7_size_0 0 rfl ?_
  refine jv_get X dJ7_size_1 ha (T := TJ7) (N := 3) (C := RJ7) rfl in_J7 2 (by decide) q247 rfl rfl ?_
  refine jv_aload_n X dJ7_size_4 0 rfl ?_
  refine jv_get X dJ7_size_5 ha (T := TJ7) (N := 3) (C := RJ7) rfl in_J7 1 (by decide) q246 rfl rfl ?_
  refine jv_aload_n X dJ7_size_8 0 rfl ?_
  refine jv_get X dJ7_size_9 ha (T := TJ7) (N := 3) (C := RJ7) rfl in_J7 0 (by decide) q245 rfl rfl ?_
  refine jv_alen (t0 := 1) (v := nI 17) X dJ7_size_12 he rfl rfl ?_
  refine jv_ask (jv_runS (As := [.int (nI (dqi h n)), .int (nI h), .int (nI 17)]) (rest := []) X dJ7_size_13 (c_J7_sub (dqi h n) h (by omega) (by omega)) (lw_S q494 q495 q99 q496) hd_J7_sub (Nat.le_of_ble_eq_true rfl) (Nat.le_of_ble_eq_true rfl) (Nat.le_of_ble_eq_true rfl) (Nat.le_of_ble_eq_true rfl) rfl (Nat.le_of_ble_eq_true rfl)) ?_
  exact jv_iret (v := nI (if h ≤ (dqi h n) then (dqi h n) - h else (dqi h n) + 17 - h)) X dJ7_size_16 rfl hQ (Nat.le_of_ble_eq_true rfl) (Nat.le_of_ble_eq_true rfl) ⟨(congrArg nI (dq_n hh (show n < 17 by omega))), rfl⟩
theorem hd_J7_isEmpty : jv_dd yJ7_isEmpty 0 := by unfold jv_dd; decide +kernel
set_option maxHeartbeats 4000000 in
theorem c_J7_isEmpty {l : Launch} {G : jv_G} {M : jv_M} {σ : jk_A} (hG : jk_G G σ) {a e h n : Nat} {f : Nat → Option Nat} {Q : Nat → Nat} (hq : jdq G M a e h n f Q)   : jv_Ct G l yJ7_isEmpty cJ7_isEmpty 1 (some .boolean) 0 0 0 0 [.ref a] M (jv_qi G (jv_pi (bI (decide (n = 0))) M)) := by
  refine jv_Ct.of (lv := [(0, .ref a)]) (by decide) (Nat.le_of_ble_eq_true rfl) rfl ?_
  intro x Q_ hl_ hQ X
  subst hl_
  obtain ⟨ha, he, ⟨hfa, hfe⟩, hh, hn9, hQ1⟩ := id hq
  have hdl_ := dqi_lt (h := h) (i := n) hh (by omega)
  refine jv_aload_n X dJ7_isEmpty_0 0 rfl ?_
  refine jv_get X dJ7_isEmpty_1 ha (T := TJ7) (N := 3) (C := RJ7) rfl in_J7 1 (by decide) q246 rfl rfl ?_
  refine jv_aload_n X dJ7_isEmpty_4 0 rfl ?_
  refine jv_get X dJ7_isEmpty_5 ha (T := TJ7) (N := 3) (C := RJ7) rfl in_J7 2 (by decide) q247 rfl rfl ?_
  refine jn_icmp_ne 15 X dJ7_isEmpty_8 (by decide) (by omega) (by omega) (fun c8 => ?_) (fun c8 => ?_)
  · skip
    refine jv_iconst (v := nI 0) X dJ7_isEmpty_15 rfl ?_
    exact jv_iret (v := bI false) X dJ7_isEmpty_16 (bI_nar _) hQ (Nat.le_of_ble_eq_true rfl) (Nat.le_of_ble_eq_true rfl) ⟨(congrArg bI (decide_eq_false (fun z => c8 ((dq_e hh (by omega)).mpr z))).symm), rfl⟩
  · skip
    refine jv_iconst (v := nI 1) X dJ7_isEmpty_11 rfl ?_
    refine jv_goto 16 X dJ7_isEmpty_12 (by decide) ?_
    exact jv_iret (v := bI true) X dJ7_isEmpty_16 (bI_nar _) hQ (Nat.le_of_ble_eq_true rfl) (Nat.le_of_ble_eq_true rfl) ⟨(congrArg bI (decide_eq_true ((dq_e hh (by omega)).mp c8)).symm), rfl⟩
theorem jdq.z {G : jv_G} {M : jv_M} {a e h n : Nat} {f : Nat → Option Nat} {Q : Nat → Nat} (hq : jdq G M a e h n f Q) (hn : n ≤ 8) {v : Nat} : jdq G (jv_up (jv_up M e (.inl (G.2.2.1 1, 17, .inr (.inr (.inr (.inr (va_up f (dqi h n) (some v)))))))) a (.inr (23, [.ref e, .int (nI h), .int (nI (dqi h (n + 1)))]))) a e h (n + 1) (va_up f (dqi h n) (some v)) (fun i => if i = n then v else Q i) := by
  obtain ⟨ha, he, hg, hh, hn9, hQ⟩ := hq
  refine ⟨jv_up_s, (jv_up_n (ck_ne he ha rfl)).trans jv_up_s, hg, hh, by omega, fun i hi => ?_⟩
  show va_up f (dqi h n) (some v) (dqi h i) = some (if i = n then v else Q i)
  by_cases z : i = n
  · rw [z, if_pos rfl]; exact va_up_self _ _ _
  · rw [if_neg z, va_up_ne _ _ (fun y => z (dqi_inj hh (by omega) (by omega) y))]; exact hQ i (by omega)
theorem hd_J7_elementAt : jv_dd yJ7_elementAt 2 := by unfold jv_dd; decide +kernel
set_option maxHeartbeats 4000000 in
theorem c_J7_elementAt {l : Launch} {G : jv_G} {M : jv_M} {e : Nat} {f : Nat → Option Nat} (he : M e = some (.inl (G.2.2.1 1, 17, .inr (.inr (.inr (.inr f)))))) (i : Nat) (x_ : Nat) (hi : i < 17) (hx : va_rf (f i) = .ref x_) : jv_Ct G l yJ7_elementAt cJ7_elementAt 2 (some (.object "java/lang/Object")) 0 0 0 0 [.ref e, .int (nI i)] M (jv_qr G (fun r M' => r = x_ ∧ M' = M)) := by
  refine jv_Ct.of (lv := [(0, .ref e), (1, .int (nI i))]) (by decide) (Nat.le_of_ble_eq_true rfl) rfl ?_
  intro x Q_ hl_ hQ X
  subst hl_
  refine jv_aload_n X dJ7_elementAt_0 0 rfl ?_
  refine jv_iload_n X dJ7_elementAt_1 1 rfl ?_
  refine jv_aald (v := .ref x_) X dJ7_elementAt_2 he (jn_in (by omega) (by omega)) (by rw [nI_clamp (by omega)]; exact hx) ?_
  exact jv_aret X dJ7_elementAt_3 (by first | exact Or.inl ⟨_, rfl⟩ | exact Or.inr ⟨_, rfl⟩) hQ (Nat.le_of_ble_eq_true rfl) (Nat.le_of_ble_eq_true rfl) ⟨rfl, rfl⟩
theorem hd_J7_dec : jv_dd yJ7_dec 2 := by unfold jv_dd; decide +kernel
set_option maxHeartbeats 4000000 in
theorem c_J7_dec {l : Launch} {G : jv_G} {M : jv_M} (i : Nat) (hi : i < 17) : jv_Ct G l yJ7_dec cJ7_dec 2 (some .int) 0 0 0 0 [.int (nI i), .int (nI 17)] M (jv_qi G (jv_pi (nI (if i = 0 then 16 else i - 1)) M)) := by
  refine jv_Ct.of (lv := [(0, .int (nI i)), (1, .int (nI 17))]) (by decide) (Nat.le_of_ble_eq_true rfl) rfl ?_
  intro x Q_ hl_ hQ X
  subst hl_
  refine jv_iinc (v := nI i - nI 1) (lv' := [(0, .int (nI i - nI 1)), (1, .int (nI 17))]) X dJ7_dec_0 0 rfl (ni_dec _) (by decide) rfl ?_
  refine jv_iload_n X dJ7_dec_3 0 rfl ?_
  refine jv_if_ge 11 X dJ7_dec_4 (by decide) (fun c4 => ?_) (fun c4 => ?_)
  · skip
    refine jv_iload_n X dJ7_dec_11 0 rfl ?_
    exact jv_iret (v := nI i - nI 1) X dJ7_dec_12 rfl hQ (Nat.le_of_ble_eq_true rfl) (Nat.le_of_ble_eq_true rfl) ⟨(dq_dec1 hi c4), rfl⟩
  · skip
    refine jv_iload_n X dJ7_dec_7 1 rfl ?_
    refine jv_iconst (v := nI 1) X dJ7_dec_8 rfl ?_
    refine jv_isub (w := nI (17 - 1)) X dJ7_dec_9 (pk_sub (by decide)) ?_
    refine jv_istore_n (lv' := [(0, .int (nI (17 - 1))), (1, .int (nI 17))]) X dJ7_dec_10 rfl (by decide) rfl ?_
    refine jv_iload_n X dJ7_dec_11 0 rfl ?_
    exact jv_iret (v := nI (17 - 1)) X dJ7_dec_12 rfl hQ (Nat.le_of_ble_eq_true rfl) (Nat.le_of_ble_eq_true rfl) ⟨(dq_dec0 hi c4), rfl⟩
theorem hd_J7_addLast : jv_dd yJ7_addLast 1 := by unfold jv_dd; decide +kernel
set_option maxHeartbeats 4000000 in
theorem c_J7_addLast {l : Launch} {G : jv_G} {M : jv_M} {σ : jk_A} (hG : jk_G G σ) {a e h n : Nat} {f : Nat → Option Nat} {Q : Nat → Nat} (hq : jdq G M a e h n f Q) {v lp lr la : Nat} (hv : M v = some (.inr (1, [.ref lp, .ref lr, .ref la]))) (hfv : G.1 ≤ v)  (hn8 : n ≤ 8) : jv_Ct G l yJ7_addLast cJ7_addLast 3 (none) 1 0 0 21 [.ref a, .ref v] M (jv_qv G (fun M' => M' = jv_up (jv_up M e (.inl (G.2.2.1 1, 17, .inr (.inr (.inr (.inr (va_up f (dqi h n) (some v)))))))) a (.inr (23, [.ref e, .int (nI h), .int (nI (dqi h (n + 1)))])))) := by
  refine jv_Ct.of (lv := [(0, .ref a), (1, .ref v)]) (by decide) (Nat.le_of_ble_eq_true rfl) rfl ?_
  intro x Q_ hl_ hQ X
  subst hl_
  obtain ⟨ha, he, ⟨hfa, hfe⟩, hh, hn9, hQ1⟩ := id hq
  have hdl_ := dqi_lt (h := h) (i := n) hh (by omega)
  refine jv_aload_n X dJ7_addLast_0 1 rfl ?_
  refine jv_ifnonnull 12 X dJ7_addLast_1 (by decide) ?_
  refine jv_aload_n X dJ7_addLast_12 0 rfl ?_
  refine jv_get X dJ7_addLast_13 ha (T := TJ7) (N := 3) (C := RJ7) rfl in_J7 0 (by decide) q245 rfl rfl ?_
  refine jv_astore_n (lv' := [(2, .ref e), (0, .ref a), (1, .ref v)]) X dJ7_addLast_16 rfl (by decide) rfl ?_
  refine jv_aload_n X dJ7_addLast_17 0 rfl ?_
  refine jv_aload_n X dJ7_addLast_18 1 rfl ?_
  refine jv_get X dJ7_addLast_19 ha (T := TJ7) (N := 3) (C := RJ7) rfl in_J7 2 (by decide) q247 rfl rfl ?_
  refine jv_aload_n X dJ7_addLast_22 2 rfl ?_
  refine jv_astq (g := va_up f (dqi h n) (some v)) X dJ7_addLast_23 he hfe hv hfv (show jv_cl[1]? = some (RX1, TX1, 3) from rfl) q2503 (jn_in (by omega) (by omega)) (by rw [nI_clamp (by omega)]) ?_
  refine jv_aload_n X dJ7_addLast_24 1 rfl ?_
  refine jv_get X dJ7_addLast_25 ((jv_up_n (ck_ne ha he rfl)).trans ha) (T := TJ7) (N := 3) (C := RJ7) rfl in_J7 1 (by decide) q246 rfl rfl ?_
  refine jv_aload_n X dJ7_addLast_28 1 rfl ?_
  refine jv_aload_n X dJ7_addLast_29 1 rfl ?_
  refine jv_get X dJ7_addLast_30 ((jv_up_n (ck_ne ha he rfl)).trans ha) (T := TJ7) (N := 3) (C := RJ7) rfl in_J7 2 (by decide) q247 rfl rfl ?_
  refine jv_aload_n X dJ7_addLast_33 0 rfl ?_
  refine jv_alen (t0 := 1) (v := nI 17) X dJ7_addLast_34 jv_up_s rfl rfl ?_
  refine jv_ask (jv_runS (As := [.int (nI (dqi h n)), .int (nI 17)]) (rest := [.ref a, .int (nI h)]) X dJ7_addLast_35 (c_J7_inc (dqi h n) (by omega)) (lw_S q476 q477 q99 q478) hd_J7_inc (Nat.le_of_ble_eq_true rfl) (Nat.le_of_ble_eq_true rfl) (Nat.le_of_ble_eq_true rfl) (Nat.le_of_ble_eq_true rfl) rfl (Nat.le_of_ble_eq_true rfl)) ?_
  refine jv_dup_x1 X dJ7_addLast_38 rfl rfl ?_
  refine jv_put (fs' := [.ref e, .int (nI h), .int (nI (if (dqi h n) + 1 < 17 then (dqi h n) + 1 else 0))]) X dJ7_addLast_39 ((jv_up_n (ck_ne ha he rfl)).trans ha) hfa (T := TJ7) (N := 3) (C := RJ7) rfl in_J7 tyJ7 tyJ7_ok nmJ7 2 (by decide) q247 rfl rfl  rfl rfl rfl (show 2 < 3 from by decide) rfl ?_
  refine jn_icmp_ne 50 X dJ7_addLast_42 (by decide) (by omega) (by rw [← dqi_s hh (by omega)]; have := dqi_lt (h := h) (i := n + 1) hh (by omega); omega) (fun c42 => ?_) (fun c42 => ?_)
  · skip
    exact jv_vret X dJ7_addLast_50 hQ (Nat.le_of_ble_eq_true rfl) (Nat.le_of_ble_eq_true rfl) (by rw [dqi_s hh (by omega)])
  · skip
    exact (absurd c42 (fun z => by have h9 := dqi_inj (i := 0) (j := n + 1) hh (by omega) (by omega) (by rw [dqi_s hh (by omega), ← z]; unfold dqi; rw [if_pos (by omega)]; rfl); omega))
theorem hd_J7_pollFirst : jv_dd yJ7_pollFirst 0 := by unfold jv_dd; decide +kernel
set_option maxHeartbeats 4000000 in
theorem c_J7_pollFirst {l : Launch} {G : jv_G} {M : jv_M} {σ : jk_A} (hG : jk_G G σ) {a e h n : Nat} {f : Nat → Option Nat} {Q : Nat → Nat} (hq : jdq G M a e h n f Q)  (hn1 : 1 ≤ n) : jv_Ct G l yJ7_pollFirst cJ7_pollFirst 4 (some (.object "java/lang/Object")) 1 0 0 21 [.ref a] M (jv_qr G (fun r M' => r = Q 0 ∧ M' = jv_up (jv_up M e (.inl (G.2.2.1 1, 17, .inr (.inr (.inr (.inr (va_up f h none))))))) a (.inr (23, [.ref e, .int (nI (dqi h 1)), .int (nI (dqi h n))])))) := by
  refine jv_Ct.of (lv := [(0, .ref a)]) (by decide) (Nat.le_of_ble_eq_true rfl) rfl ?_
  intro x Q_ hl_ hQ X
  subst hl_
  obtain ⟨ha, he, ⟨hfa, hfe⟩, hh, hn9, hQ1⟩ := id hq
  have hdl_ := dqi_lt (h := h) (i := n) hh (by omega)
  refine jv_aload_n X dJ7_pollFirst_0 0 rfl ?_
  refine jv_get X dJ7_pollFirst_1 ha (T := TJ7) (N := 3) (C := RJ7) rfl in_J7 0 (by decide) q245 rfl rfl ?_
  refine jv_dup X dJ7_pollFirst_4 rfl ?_
  refine jv_astore_n (lv' := [(1, .ref e), (0, .ref a)]) X dJ7_pollFirst_5 rfl (by decide) rfl ?_
  refine jv_aload_n X dJ7_pollFirst_6 1 rfl ?_
  refine jv_get X dJ7_pollFirst_7 ha (T := TJ7) (N := 3) (C := RJ7) rfl in_J7 1 (by decide) q246 rfl rfl ?_
  refine jv_dup X dJ7_pollFirst_10 rfl ?_
  refine jv_istore_n (lv' := [(2, .int (nI h)), (1, .ref e), (0, .ref a)]) X dJ7_pollFirst_11 rfl (by decide) rfl ?_
  refine jv_callr (jv_runS (As := [.ref e, .int (nI h)]) (rest := []) X dJ7_pollFirst_12 (c_J7_elementAt he h (Q 0) (by omega) (by have h9 := hQ1 0 (by omega); rw [show dqi h 0 = h by unfold dqi; rw [if_pos (by omega)]; rfl] at h9; rw [h9]; rfl)) (lw_S q505 q506 q99 q507) hd_J7_elementAt (Nat.le_of_ble_eq_true rfl) (Nat.le_of_ble_eq_true rfl) (Nat.le_of_ble_eq_true rfl) (Nat.le_of_ble_eq_true rfl) rfl (Nat.le_of_ble_eq_true rfl)) (fun rr_ M_ h_ => ?_)
  obtain ⟨hr_, hm_⟩ := h_
  rw [hr_, hm_]
  clear hr_ hm_
  refine jv_astore_n (lv' := [(3, .ref (Q 0)), (2, .int (nI h)), (1, .ref e), (0, .ref a)]) X dJ7_pollFirst_15 rfl (by decide) rfl ?_
  refine jv_aload_n X dJ7_pollFirst_16 0 rfl ?_
  refine jv_ifnull X dJ7_pollFirst_17 ?_
  refine jv_aload_n X dJ7_pollFirst_20 2 rfl ?_
  refine jv_iload_n X dJ7_pollFirst_21 1 rfl ?_
  refine jv_null X dJ7_pollFirst_22 ?_
  refine jv_astqN (g := va_up f h none) X dJ7_pollFirst_23 he hfe (jn_in (by omega) (by omega)) (by rw [nI_clamp (by omega)]) ?_
  refine jv_aload_n X dJ7_pollFirst_24 3 rfl ?_
  refine jv_iload_n X dJ7_pollFirst_25 1 rfl ?_
  refine jv_aload_n X dJ7_pollFirst_26 2 rfl ?_
  refine jv_alen (t0 := 1) (v := nI 17) X dJ7_pollFirst_27 jv_up_s rfl rfl ?_
  refine jv_ask (jv_runS (As := [.int (nI h), .int (nI 17)]) (rest := [.ref a]) X dJ7_pollFirst_28 (c_J7_inc h (by omega)) (lw_S q476 q477 q99 q478) hd_J7_inc (Nat.le_of_ble_eq_true rfl) (Nat.le_of_ble_eq_true rfl) (Nat.le_of_ble_eq_true rfl) (Nat.le_of_ble_eq_true rfl) rfl (Nat.le_of_ble_eq_true rfl)) ?_
  refine jv_put (fs' := [.ref e, .int (nI (if h + 1 < 17 then h + 1 else 0)), .int (nI (dqi h n))]) X dJ7_pollFirst_31 ((jv_up_n (ck_ne ha he rfl)).trans ha) hfa (T := TJ7) (N := 3) (C := RJ7) rfl in_J7 tyJ7 tyJ7_ok nmJ7 1 (by decide) q246 rfl rfl  rfl rfl rfl (show 1 < 3 from by decide) rfl ?_
  refine jv_aload_n X dJ7_pollFirst_34 0 rfl ?_
  exact jv_aret X dJ7_pollFirst_35 (by first | exact Or.inl ⟨_, rfl⟩ | exact Or.inr ⟨_, rfl⟩) hQ (Nat.le_of_ble_eq_true rfl) (Nat.le_of_ble_eq_true rfl) ⟨rfl, by rw [show dqi h 1 = (if h + 1 < 17 then h + 1 else 0) by unfold dqi; split <;> omega]⟩
theorem hd_J7_pollLast : jv_dd yJ7_pollLast 0 := by unfold jv_dd; decide +kernel
set_option maxHeartbeats 4000000 in
theorem c_J7_pollLast {l : Launch} {G : jv_G} {M : jv_M} {σ : jk_A} (hG : jk_G G σ) {a e h n : Nat} {f : Nat → Option Nat} {Q : Nat → Nat} (hq : jdq G M a e h n f Q)  (hn1 : 1 ≤ n) : jv_Ct G l yJ7_pollLast cJ7_pollLast 4 (some (.object "java/lang/Object")) 1 0 0 21 [.ref a] M (jv_qr G (fun r M' => r = Q (n - 1) ∧ M' = jv_up (jv_up M a (.inr (23, [.ref e, .int (nI h), .int (nI (dqi h (n - 1)))]))) e (.inl (G.2.2.1 1, 17, .inr (.inr (.inr (.inr (va_up f (dqi h (n - 1)) none)))))))) := by
  refine jv_Ct.of (lv := [(0, .ref a)]) (by decide) (Nat.le_of_ble_eq_true rfl) rfl ?_
  intro x Q_ hl_ hQ X
  subst hl_
  obtain ⟨ha, he, ⟨hfa, hfe⟩, hh, hn9, hQ1⟩ := id hq
  have hdl_ := dqi_lt (h := h) (i := n) hh (by omega)
  refine jv_aload_n X dJ7_pollLast_0 0 rfl ?_
  refine jv_get X dJ7_pollLast_1 ha (T := TJ7) (N := 3) (C := RJ7) rfl in_J7 0 (by decide) q245 rfl rfl ?_
  refine jv_dup X dJ7_pollLast_4 rfl ?_
  refine jv_astore_n (lv' := [(1, .ref e), (0, .ref a)]) X dJ7_pollLast_5 rfl (by decide) rfl ?_
  refine jv_aload_n X dJ7_pollLast_6 1 rfl ?_
  refine jv_get X dJ7_pollLast_7 ha (T := TJ7) (N := 3) (C := RJ7) rfl in_J7 2 (by decide) q247 rfl rfl ?_
  refine jv_aload_n X dJ7_pollLast_10 0 rfl ?_
  refine jv_alen (t0 := 1) (v := nI 17) X dJ7_pollLast_11 he rfl rfl ?_
  refine jv_ask (jv_runS (As := [.int (nI (dqi h n)), .int (nI 17)]) (rest := [.ref e]) X dJ7_pollLast_12 (c_J7_dec (dqi h n) (by omega)) (lw_S q1986 q1987 q99 q1988) hd_J7_dec (Nat.le_of_ble_eq_true rfl) (Nat.le_of_ble_eq_true rfl) (Nat.le_of_ble_eq_true rfl) (Nat.le_of_ble_eq_true rfl) rfl (Nat.le_of_ble_eq_true rfl)) ?_
  refine jv_dup X dJ7_pollLast_15 rfl ?_
  refine jv_istore_n (lv' := [(2, .int (nI (if (dqi h n) = 0 then 16 else (dqi h n) - 1))), (1, .ref e), (0, .ref a)]) X dJ7_pollLast_16 rfl (by decide) rfl ?_
  have hd_ : (if dqi h n = 0 then 16 else dqi h n - 1) = dqi h (n - 1) := dq_pd hh hn1 (by omega)
  rw [hd_]
  have hd2_ := dqi_lt (h := h) (i := n - 1) hh (by omega)
  refine jv_callr (jv_runS (As := [.ref e, .int (nI (dqi h (n - 1)))]) (rest := []) X dJ7_pollLast_17 (c_J7_elementAt he (dqi h (n - 1)) (Q (n - 1)) (by omega) (by rw [hQ1 (n - 1) (by omega)]; rfl)) (lw_S q505 q506 q99 q507) hd_J7_elementAt (Nat.le_of_ble_eq_true rfl) (Nat.le_of_ble_eq_true rfl) (Nat.le_of_ble_eq_true rfl) (Nat.le_of_ble_eq_true rfl) rfl (Nat.le_of_ble_eq_true rfl)) (fun rr_ M_ h_ => ?_)
  obtain ⟨hr_, hm_⟩ := h_
  rw [hr_, hm_]
  clear hr_ hm_
  refine jv_astore_n (lv' := [(3, .ref (Q (n - 1))), (2, .int (nI (dqi h (n - 1)))), (1, .ref e), (0, .ref a)]) X dJ7_pollLast_20 rfl (by decide) rfl ?_
  refine jv_aload_n X dJ7_pollLast_21 0 rfl ?_
  refine jv_ifnull X dJ7_pollLast_22 ?_
  refine jv_aload_n X dJ7_pollLast_25 2 rfl ?_
  refine jv_aload_n X dJ7_pollLast_26 3 rfl ?_
  refine jv_iload_n X dJ7_pollLast_27 1 rfl ?_
  refine jv_dup_x1 X dJ7_pollLast_28 rfl rfl ?_
  refine jv_put (fs' := [.ref e, .int (nI h), .int (nI (dqi h (n - 1)))]) X dJ7_pollLast_29 ha hfa (T := TJ7) (N := 3) (C := RJ7) rfl in_J7 tyJ7 tyJ7_ok nmJ7 2 (by decide) q247 rfl rfl  rfl rfl rfl (show 2 < 3 from by decide) rfl ?_
  refine jv_null X dJ7_pollLast_32 ?_
  refine jv_astqN (g := va_up f (dqi h (n - 1)) none) X dJ7_pollLast_33 ((jv_up_n (ck_ne he ha rfl)).trans he) hfe (jn_in (by omega) (by omega)) (by rw [nI_clamp (by omega)]) ?_
  refine jv_aload_n X dJ7_pollLast_34 0 rfl ?_
  exact jv_aret X dJ7_pollLast_35 (by first | exact Or.inl ⟨_, rfl⟩ | exact Or.inr ⟨_, rfl⟩) hQ (Nat.le_of_ble_eq_true rfl) (Nat.le_of_ble_eq_true rfl) ⟨rfl, rfl⟩
theorem hd_J7_removeFirst : jv_dd yJ7_removeFirst 0 := by unfold jv_dd; decide +kernel
set_option maxHeartbeats 4000000 in
theorem c_J7_removeFirst {l : Launch} {G : jv_G} {M : jv_M} {σ : jk_A} (hG : jk_G G σ) {a e h n : Nat} {f : Nat → Option Nat} {Q : Nat → Nat} (hq : jdq G M a e h n f Q)  (hn1 : 1 ≤ n) : jv_Ct G l yJ7_removeFirst cJ7_removeFirst 2 (some (.object "java/lang/Object")) 2 0 0 44 [.ref a] M (jv_qr G (fun r M' => r = Q 0 ∧ M' = jv_up (jv_up M e (.inl (G.2.2.1 1, 17, .inr (.inr (.inr (.inr (va_up f h none))))))) a (.inr (23, [.ref e, .int (nI (dqi h 1)), .int (nI (dqi h n))])))) := by
  refine jv_Ct.of (lv := [(0, .ref a)]) (by decide) (Nat.le_of_ble_eq_true rfl) rfl ?_
  intro x Q_ hl_ hQ X
  subst hl_
  obtain ⟨ha, he, ⟨hfa, hfe⟩, hh, hn9, hQ1⟩ := id hq
  have hdl_ := dqi_lt (h := h) (i := n) hh (by omega)
  refine jv_aload_n X dJ7_removeFirst_0 0 rfl ?_
  refine jv_callr (jv_runV (As := []) (rest := []) X dJ7_removeFirst_1 (c_J7_pollFirst hG hq hn1) (lw_V q501 q502 q503 q99 q504) hd_J7_pollFirst ha rfl (Nat.le_of_ble_eq_true rfl) (Nat.le_of_ble_eq_true rfl) (Nat.le_of_ble_eq_true rfl) (Nat.le_of_ble_eq_true rfl) rfl (Nat.le_of_ble_eq_true rfl)) (fun rr_ M2_ h_ => ?_)
  refine jv_astore_n (lv' := [(1, .ref rr_), (0, .ref a)]) X dJ7_removeFirst_4 rfl (by decide) rfl ?_
  refine jv_aload_n X dJ7_removeFirst_5 0 rfl ?_
  refine jv_ifnonnull 17 X dJ7_removeFirst_6 (by decide) ?_
  refine jv_aload_n X dJ7_removeFirst_17 0 rfl ?_
  exact jv_aret X dJ7_removeFirst_18 (by first | exact Or.inl ⟨_, rfl⟩ | exact Or.inr ⟨_, rfl⟩) hQ (Nat.le_of_ble_eq_true rfl) (Nat.le_of_ble_eq_true rfl) h_
theorem hd_J7_removeLast : jv_dd yJ7_removeLast 0 := by unfold jv_dd; decide +kernel
set_option maxHeartbeats 4000000 in
theorem c_J7_removeLast {l : Launch} {G : jv_G} {M : jv_M} {σ : jk_A} (hG : jk_G G σ) {a e h n : Nat} {f : Nat → Option Nat} {Q : Nat → Nat} (hq : jdq G M a e h n f Q)  (hn1 : 1 ≤ n) : jv_Ct G l yJ7_removeLast cJ7_removeLast 2 (some (.object "java/lang/Object")) 2 0 0 44 [.ref a] M (jv_qr G (fun r M' => r = Q (n - 1) ∧ M' = jv_up (jv_up M a (.inr (23, [.ref e, .int (nI h), .int (nI (dqi h (n - 1)))]))) e (.inl (G.2.2.1 1, 17, .inr (.inr (.inr (.inr (va_up f (dqi h (n - 1)) none)))))))) := by
  refine jv_Ct.of (lv := [(0, .ref a)]) (by decide) (Nat.le_of_ble_eq_true rfl) rfl ?_
  intro x Q_ hl_ hQ X
  subst hl_
  obtain ⟨ha, he, ⟨hfa, hfe⟩, hh, hn9, hQ1⟩ := id hq
  have hdl_ := dqi_lt (h := h) (i := n) hh (by omega)
  refine jv_aload_n X dJ7_removeLast_0 0 rfl ?_
  refine jv_callr (jv_runV (As := []) (rest := []) X dJ7_removeLast_1 (c_J7_pollLast hG hq hn1) (lw_V q1982 q1983 q1984 q99 q1985) hd_J7_pollLast ha rfl (Nat.le_of_ble_eq_true rfl) (Nat.le_of_ble_eq_true rfl) (Nat.le_of_ble_eq_true rfl) (Nat.le_of_ble_eq_true rfl) rfl (Nat.le_of_ble_eq_true rfl)) (fun rr_ M2_ h_ => ?_)
  refine jv_astore_n (lv' := [(1, .ref rr_), (0, .ref a)]) X dJ7_removeLast_4 rfl (by decide) rfl ?_
  refine jv_aload_n X dJ7_removeLast_5 0 rfl ?_
  refine jv_ifnonnull 17 X dJ7_removeLast_6 (by decide) ?_
  refine jv_aload_n X dJ7_removeLast_17 0 rfl ?_
  exact jv_aret X dJ7_removeLast_18 (by first | exact Or.inl ⟨_, rfl⟩ | exact Or.inr ⟨_, rfl⟩) hQ (Nat.le_of_ble_eq_true rfl) (Nat.le_of_ble_eq_true rfl) h_
theorem jv_up_id {M : jv_M} {a : Nat} {c : va_E} (h : M a = some c) : jv_up M a c = M := by
  funext b
  by_cases e : b = a
  · rw [e, h]; exact jv_up_s
  · exact jv_up_n e
theorem hd_J7_circularClear : jv_dd yJ7_circularClear 3 := by unfold jv_dd; decide +kernel
set_option maxHeartbeats 4000000 in
theorem c_J7_circularClear {l : Launch} {G : jv_G} {M : jv_M} {σ : jk_A} (hG : jk_G G σ) {e : Nat} {f : Nat → Option Nat} (he : M e = some (.inl (G.2.2.1 1, 17, .inr (.inr (.inr (.inr f)))))) (hfe : G.1 ≤ e) (i : Nat) (t : Nat) (hi : i < 17) (ht : t < 17) : jv_Ct G l yJ7_circularClear cJ7_circularClear 4 (none) 0 0 0 0 [.ref e, .int (nI i), .int (nI t)] M (jv_qv G (fun M' => ∃ f', M' = jv_up M e (.inl (G.2.2.1 1, 17, .inr (.inr (.inr (.inr f'))))))) := by
  refine jv_Ct.of (lv := [(0, .ref e), (1, .int (nI i)), (2, .int (nI t))]) (by decide) (Nat.le_of_ble_eq_true rfl) rfl ?_
  intro x Q_ hl_ hQ X
  subst hl_
  rw [← jv_up_id he]
  refine jv_iload_n X dJ7_circularClear_0 1 rfl ?_
  refine jv_iload_n X dJ7_circularClear_1 2 rfl ?_
  refine jn_icmp_gt 9 X dJ7_circularClear_2 (by decide) (by omega) (by omega) (fun c2 => ?_) (fun c2 => ?_)
  · skip
    refine jv_aload_n X dJ7_circularClear_9 0 rfl ?_
    refine jv_alen (t0 := 1) (v := nI 17) X dJ7_circularClear_10 jv_up_s rfl rfl ?_
    refine jv_istore_n (lv' := [(3, .int (nI 17)), (0, .ref e), (1, .int (nI i)), (2, .int (nI t))]) X dJ7_circularClear_11 rfl (by decide) rfl ?_
    have lp12_1 : ∀ (d_12 : Nat) (k : Nat) (to : Nat) (f_ : Nat → Option Nat), k ≤ to → to ≤ 17 → (to = t ∨ to = 17) → (if to = t then 0 else 18) + (to - k) < d_12 → jv_J x G 4 Q_ (jv_up M e (.inl (G.2.2.1 1, 17, .inr (.inr (.inr (.inr f_)))))) 0 0 12 [(0, .ref e), (2, .int (nI t)), (1, .int (nI k)), (3, .int (nI to))] [] := by
      intro d_12
      induction d_12 with
      | zero => intro k to f_ hk hto ht_ hm_12; exact absurd hm_12 (Nat.not_lt_zero _)
      | succ d_12 ih_12 =>
        intro k to f_ hk hto ht_ hm_12
        refine jv_iload_n X dJ7_circularClear_12 2 rfl ?_
        refine jv_iload_n X dJ7_circularClear_13 3 rfl ?_
        refine jn_icmp_ge 27 X dJ7_circularClear_14 (by decide) (by omega) (by omega) (fun c14 => ?_) (fun c14 => ?_)
        · skip
          refine jv_iload_n X dJ7_circularClear_27 3 rfl ?_
          refine jv_iload_n X dJ7_circularClear_28 1 rfl ?_
          refine jn_icmp_ne 35 X dJ7_circularClear_29 (by decide) (by omega) (by omega) (fun c29 => ?_) (fun c29 => ?_)
          · skip
            refine jv_iconst (v := nI 0) X dJ7_circularClear_35 rfl ?_
            refine jv_istore_n (lv' := [(1, .int (nI 0)), (0, .ref e), (2, .int (nI t)), (3, .int (nI to))]) X dJ7_circularClear_36 rfl (by decide) rfl ?_
            refine jv_iload_n X dJ7_circularClear_37 2 rfl ?_
            refine jv_istore_n (lv' := [(3, .int (nI t)), (1, .int (nI 0)), (0, .ref e), (2, .int (nI t))]) X dJ7_circularClear_38 rfl (by decide) rfl ?_
            refine jv_goto 12 X dJ7_circularClear_39 (by decide) ?_
            refine jv_lv (lv' := [(0, .ref e), (2, .int (nI t)), (1, .int (nI 0)), (3, .int (nI t))]) [2, 3, 1, 0] rfl ?_
            exact ih_12 0 t f_ (by omega) (by omega) (Or.inl rfl) (by first | omega | (rw [if_pos rfl]; rw [if_neg c29] at hm_12; omega) | (split <;> split at hm_12 <;> omega))
          · skip
            refine jv_goto 42 X dJ7_circularClear_32 (by decide) ?_
            exact jv_vret X dJ7_circularClear_42 hQ (Nat.le_of_ble_eq_true rfl) (Nat.le_of_ble_eq_true rfl) ⟨f_, rfl⟩
        · skip
          refine jv_aload_n X dJ7_circularClear_17 0 rfl ?_
          refine jv_iload_n X dJ7_circularClear_18 2 rfl ?_
          refine jv_null X dJ7_circularClear_19 ?_
          refine jv_astqN (g := va_up f_ k none) X dJ7_circularClear_20 jv_up_s hfe (jn_in (by omega) (by omega)) (by rw [nI_clamp (by omega)]) ?_
          rw [jv_up_up]
          refine jv_iinc (v := nI (k + 1)) (lv' := [(1, .int (nI (k + 1))), (0, .ref e), (2, .int (nI t)), (3, .int (nI to))]) X dJ7_circularClear_21 2 rfl (nI_1 _) (by decide) rfl ?_
          refine jv_goto 12 X dJ7_circularClear_24 (by decide) ?_
          refine jv_lv (lv' := [(0, .ref e), (2, .int (nI t)), (1, .int (nI (k + 1))), (3, .int (nI to))]) [1, 2, 0, 3] rfl ?_
          exact ih_12 (k + 1) to (va_up f_ k none) (by omega) (by omega) ht_ (by first | omega | (rw [if_pos rfl]; rw [if_neg c29] at hm_12; omega) | (split <;> split at hm_12 <;> omega))
    refine jv_lv (lv' := [(0, .ref e), (2, .int (nI t)), (1, .int (nI i)), (3, .int (nI 17))]) [1, 3, 2, 0] rfl ?_
    exact lp12_1 (36 + 1) i 17 f (by omega) (by omega) (Or.inr rfl) (by split <;> omega)
  · skip
    refine jv_iload_n X dJ7_circularClear_5 2 rfl ?_
    refine jv_goto 11 X dJ7_circularClear_6 (by decide) ?_
    refine jv_istore_n (lv' := [(3, .int (nI t)), (0, .ref e), (1, .int (nI i)), (2, .int (nI t))]) X dJ7_circularClear_11 rfl (by decide) rfl ?_
    have lp12_2 : ∀ (d_12 : Nat) (k : Nat) (to : Nat) (f_ : Nat → Option Nat), k ≤ to → to ≤ 17 → (to = t ∨ to = 17) → (if to = t then 0 else 18) + (to - k) < d_12 → jv_J x G 4 Q_ (jv_up M e (.inl (G.2.2.1 1, 17, .inr (.inr (.inr (.inr f_)))))) 0 0 12 [(0, .ref e), (2, .int (nI t)), (1, .int (nI k)), (3, .int (nI to))] [] := by
      intro d_12
      induction d_12 with
      | zero => intro k to f_ hk hto ht_ hm_12; exact absurd hm_12 (Nat.not_lt_zero _)
      | succ d_12 ih_12 =>
        intro k to f_ hk hto ht_ hm_12
        refine jv_iload_n X dJ7_circularClear_12 2 rfl ?_
        refine jv_iload_n X dJ7_circularClear_13 3 rfl ?_
        refine jn_icmp_ge 27 X dJ7_circularClear_14 (by decide) (by omega) (by omega) (fun c14 => ?_) (fun c14 => ?_)
        · skip
          refine jv_iload_n X dJ7_circularClear_27 3 rfl ?_
          refine jv_iload_n X dJ7_circularClear_28 1 rfl ?_
          refine jn_icmp_ne 35 X dJ7_circularClear_29 (by decide) (by omega) (by omega) (fun c29 => ?_) (fun c29 => ?_)
          · skip
            refine jv_iconst (v := nI 0) X dJ7_circularClear_35 rfl ?_
            refine jv_istore_n (lv' := [(1, .int (nI 0)), (0, .ref e), (2, .int (nI t)), (3, .int (nI to))]) X dJ7_circularClear_36 rfl (by decide) rfl ?_
            refine jv_iload_n X dJ7_circularClear_37 2 rfl ?_
            refine jv_istore_n (lv' := [(3, .int (nI t)), (1, .int (nI 0)), (0, .ref e), (2, .int (nI t))]) X dJ7_circularClear_38 rfl (by decide) rfl ?_
            refine jv_goto 12 X dJ7_circularClear_39 (by decide) ?_
            refine jv_lv (lv' := [(0, .ref e), (2, .int (nI t)), (1, .int (nI 0)), (3, .int (nI t))]) [2, 3, 1, 0] rfl ?_
            exact ih_12 0 t f_ (by omega) (by omega) (Or.inl rfl) (by first | omega | (rw [if_pos rfl]; rw [if_neg c29] at hm_12; omega) | (split <;> split at hm_12 <;> omega))
          · skip
            refine jv_goto 42 X dJ7_circularClear_32 (by decide) ?_
            exact jv_vret X dJ7_circularClear_42 hQ (Nat.le_of_ble_eq_true rfl) (Nat.le_of_ble_eq_true rfl) ⟨f_, rfl⟩
        · skip
          refine jv_aload_n X dJ7_circularClear_17 0 rfl ?_
          refine jv_iload_n X dJ7_circularClear_18 2 rfl ?_
          refine jv_null X dJ7_circularClear_19 ?_
          refine jv_astqN (g := va_up f_ k none) X dJ7_circularClear_20 jv_up_s hfe (jn_in (by omega) (by omega)) (by rw [nI_clamp (by omega)]) ?_
          rw [jv_up_up]
          refine jv_iinc (v := nI (k + 1)) (lv' := [(1, .int (nI (k + 1))), (0, .ref e), (2, .int (nI t)), (3, .int (nI to))]) X dJ7_circularClear_21 2 rfl (nI_1 _) (by decide) rfl ?_
          refine jv_goto 12 X dJ7_circularClear_24 (by decide) ?_
          refine jv_lv (lv' := [(0, .ref e), (2, .int (nI t)), (1, .int (nI (k + 1))), (3, .int (nI to))]) [1, 2, 0, 3] rfl ?_
          exact ih_12 (k + 1) to (va_up f_ k none) (by omega) (by omega) ht_ (by first | omega | (rw [if_pos rfl]; rw [if_neg c29] at hm_12; omega) | (split <;> split at hm_12 <;> omega))
    refine jv_lv (lv' := [(0, .ref e), (2, .int (nI t)), (1, .int (nI i)), (3, .int (nI t))]) [1, 3, 2, 0] rfl ?_
    exact lp12_2 (36 + 1) i t f (by omega) (by omega) (Or.inl rfl) (by split <;> omega)
theorem hd_J7_clear : jv_dd yJ7_clear 0 := by unfold jv_dd; decide +kernel
set_option maxHeartbeats 4000000 in
theorem c_J7_clear {l : Launch} {G : jv_G} {M : jv_M} {σ : jk_A} (hG : jk_G G σ) {a e h n : Nat} {f : Nat → Option Nat} {Q : Nat → Nat} (hq : jdq G M a e h n f Q)   : jv_Ct G l yJ7_clear cJ7_clear 1 (none) 1 0 0 23 [.ref a] M (jv_qv G (fun M' => ∃ f', M' = jv_up (jv_up M e (.inl (G.2.2.1 1, 17, .inr (.inr (.inr (.inr f')))))) a (.inr (23, [.ref e, .int 0, .int 0])))) := by
  refine jv_Ct.of (lv := [(0, .ref a)]) (by decide) (Nat.le_of_ble_eq_true rfl) rfl ?_
  intro x Q_ hl_ hQ X
  subst hl_
  obtain ⟨ha, he, ⟨hfa, hfe⟩, hh, hn9, hQ1⟩ := id hq
  have hdl_ := dqi_lt (h := h) (i := n) hh (by omega)
  refine jv_aload_n X dJ7_clear_0 0 rfl ?_
  refine jv_get X dJ7_clear_1 ha (T := TJ7) (N := 3) (C := RJ7) rfl in_J7 0 (by decide) q245 rfl rfl ?_
  refine jv_aload_n X dJ7_clear_4 0 rfl ?_
  refine jv_get X dJ7_clear_5 ha (T := TJ7) (N := 3) (C := RJ7) rfl in_J7 1 (by decide) q246 rfl rfl ?_
  refine jv_aload_n X dJ7_clear_8 0 rfl ?_
  refine jv_get X dJ7_clear_9 ha (T := TJ7) (N := 3) (C := RJ7) rfl in_J7 2 (by decide) q247 rfl rfl ?_
  refine jv_callv (jv_runS (As := [.ref e, .int (nI h), .int (nI (dqi h n))]) (rest := []) X dJ7_clear_12 (c_J7_circularClear hG he hfe h (dqi h n) (by omega) hdl_) (lw_S q2001 q2002 q99 q2003) hd_J7_circularClear (Nat.le_of_ble_eq_true rfl) (Nat.le_of_ble_eq_true rfl) (Nat.le_of_ble_eq_true rfl) (Nat.le_of_ble_eq_true rfl) rfl (Nat.le_of_ble_eq_true rfl)) (fun M_ h_ => ?_)
  obtain ⟨f2_, h_⟩ := h_
  rw [h_]
  clear h_
  refine jv_aload_n X dJ7_clear_15 0 rfl ?_
  refine jv_aload_n X dJ7_clear_16 0 rfl ?_
  refine jv_iconst (v := nI 0) X dJ7_clear_17 rfl ?_
  refine jv_dup_x1 X dJ7_clear_18 rfl rfl ?_
  refine jv_put (fs' := [.ref e, .int (nI h), .int (nI 0)]) X dJ7_clear_19 ((jv_up_n (ck_ne ha he rfl)).trans ha) hfa (T := TJ7) (N := 3) (C := RJ7) rfl in_J7 tyJ7 tyJ7_ok nmJ7 2 (by decide) q247 rfl rfl  rfl rfl rfl (show 2 < 3 from by decide) rfl ?_
  refine jv_put (fs' := [.ref e, .int (nI 0), .int (nI 0)]) X dJ7_clear_22 jv_up_s hfa (T := TJ7) (N := 3) (C := RJ7) rfl in_J7 tyJ7 tyJ7_ok nmJ7 1 (by decide) q246 rfl rfl  rfl rfl rfl (show 1 < 3 from by decide) rfl ?_
  rw [jv_up_up]
  exact jv_vret X dJ7_clear_25 hQ (Nat.le_of_ble_eq_true rfl) (Nat.le_of_ble_eq_true rfl) ⟨f2_, rfl⟩
theorem hd_J7_init : jv_dd yJ7_init 0 := by unfold jv_dd; decide +kernel
set_option maxHeartbeats 4000000 in
theorem c_J7_init {l : Launch} {G : jv_G} {M : jv_M} {σ : jk_A} (hG : jk_G G σ) {a : Nat} (ha : M a = some (.inr (23, [.null, .int 0, .int 0]))) (hfa : G.1 ≤ a)   : jv_Ct G l yJ7_init cJ7_init 1 (none) 2 1 17 50 [.ref a] M (jv_qv G (fun M' => ∃ e, M e = none ∧ e ≠ a ∧ G.1 ≤ e ∧ M' = jv_up (jv_up M e (.inl (G.2.2.1 1, 17, .inr (.inr (.inr (.inr (fun _ => none))))))) a (.inr (23, [.ref e, .int 0, .int 0])))) := by
  refine jv_Ct.of (lv := [(0, .ref a)]) (by decide) (Nat.le_of_ble_eq_true rfl) rfl ?_
  intro x Q_ hl_ hQ X
  subst hl_
  refine jv_aload_n X dJ7_init_0 0 rfl ?_
  refine jv_callv (jv_runI (As := []) (rest := []) X dJ7_init_1 (c_J0_init a) (lw_meth q158) q92 q243 q157 rfl hd_J0_init (Nat.le_of_ble_eq_true rfl) (Nat.le_of_ble_eq_true rfl) (Nat.le_of_ble_eq_true rfl) (Nat.le_of_ble_eq_true rfl) rfl (Nat.le_of_ble_eq_true rfl)) (fun M_ h_ => ?_)
  rw [h_]
  refine jv_aload_n X dJ7_init_4 0 rfl ?_
  refine jv_bipush (v := nI 17) X dJ7_init_5 rfl ?_
  refine jv_newq (N := 17) (k1 := 1) (n1 := 17) X dJ7_init_7 q244 (hG.f X).2.2.2.2.1 (by decide) rfl (by decide) rfl rfl (Nat.le_of_ble_eq_true rfl) (Nat.le_of_ble_eq_true rfl) (fun q_1 hnq_1 hbq_1 => ?_)
  refine jv_put (fs' := [.ref q_1, .int 0, .int 0]) X dJ7_init_10 ((jag.new jag.rf hnq_1).c ha) hfa (T := TJ7) (N := 3) (C := RJ7) rfl in_J7 tyJ7 tyJ7_ok nmJ7 0 (by decide) q245 rfl rfl  rfl rfl rfl (show 0 < 3 from by decide) rfl ?_
  exact jv_vret X dJ7_init_13 hQ (Nat.le_of_ble_eq_true rfl) (Nat.le_of_ble_eq_true rfl) ⟨q_1, hnq_1, Ne.symm (new_ne hnq_1 ha), hbq_1, rfl⟩
