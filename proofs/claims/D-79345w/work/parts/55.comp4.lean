/-! the component, fourth -/
set_option maxRecDepth 100000
def nob (b : Bool) : Int32 := if b = true then nI 0 else (-1)
def bad_ (b : Bool) : Int32 := if b = true then nI 0 else (-2)
def sta (b : Bool) : Int32 := if b = true then nI 0 else (-3)
def ful (b : Bool) : Int32 := if b = true then nI 0 else (-4)
def fst2 (u v : Int32) : Int32 := if u = 0 then v else u
def fst3 (u v w : Int32) : Int32 := if u = 0 then (if v = 0 then w else v) else u
theorem fst2_0 {u v : Int32} : fst2 u v = 0 ↔ u = 0 ∧ v = 0 := by
  unfold fst2
  by_cases h : u = 0 <;> simp [h]
theorem fst3_0 {u v w : Int32} : fst3 u v w = 0 ↔ u = 0 ∧ v = 0 ∧ w = 0 := by
  unfold fst3
  by_cases h : u = 0 <;> by_cases h2 : v = 0 <;> simp [h, h2]
theorem nob_0 {b : Bool} : nob b = 0 ↔ b = true := by cases b <;> decide
theorem bad_0 {b : Bool} : bad_ b = 0 ↔ b = true := by cases b <;> decide
theorem sta_0 {b : Bool} : sta b = 0 ↔ b = true := by cases b <;> decide
theorem ful_0 {b : Bool} : ful b = 0 ↔ b = true := by cases b <;> decide
def hasI (u k : Int32) : Bool := if (u >>> (k &&& 31)) &&& nI 1 = nI 1 then true else false
theorem hasI_n {u k : Nat} (hu : u < 2 ^ 31) (hk : k < 32) : hasI (nI u) (nI k) = decide (u / 2 ^ k % 2 = 1) := by
  unfold hasI
  rw [ni_shr hu hk, ni_and, Nat.and_one_is_mod]
  have h2 : u / 2 ^ k % 2 < 2 := Nat.mod_lt _ (by decide)
  by_cases h : u / 2 ^ k % 2 = 1
  · rw [h]; rfl
  · rw [show u / 2 ^ k % 2 = 0 by omega]; rfl
theorem hd_X0_bad : jv_dd yX0_bad 1 := by unfold jv_dd; decide +kernel
set_option maxHeartbeats 4000000 in
theorem c_X0_bad {l : Launch} {G : jv_G} {M : jv_M} (b : Bool)  : jv_Ct G l yX0_bad cX0_bad 1 (some .int) 0 0 0 0 [.int (bI b)] M (jv_qi G (jv_pi (bad_ b) M)) := by
  refine jv_Ct.of (lv := [(0, .int (bI b))]) (by decide) (Nat.le_of_ble_eq_true rfl) rfl ?_
  intro x Q_ hl_ hQ X
  subst hl_
  refine jv_iload_n X dX0_bad_0 0 rfl ?_
  have j10_1 : ∀ w : Int32, w = (if b = true then (nI 0) else (-2)) → jv_J x G 1 Q_ M 0 0 10 [(0, .int (bI b))] [.int w] := by
    intro w e_w
    exact jv_iret (v := w) X dX0_bad_10 rfl hQ (Nat.le_of_ble_eq_true rfl) (Nat.le_of_ble_eq_true rfl) ⟨(by rw [e_w]; rfl), rfl⟩
  refine jb_if_eq 8 X dX0_bad_1 (by decide) (fun c1 => ?_) (fun c1 => ?_)
  · skip
    refine jv_bipush (v := (-2)) X dX0_bad_8 rfl ?_
    exact j10_1 _ (if_neg (Bool.eq_false_iff.mp c1)).symm
  · skip
    refine jv_iconst (v := nI 0) X dX0_bad_4 rfl ?_
    refine jv_goto 10 X dX0_bad_5 (by decide) ?_
    exact j10_1 _ (if_pos c1).symm
theorem hd_X0_full : jv_dd yX0_full 1 := by unfold jv_dd; decide +kernel
set_option maxHeartbeats 4000000 in
theorem c_X0_full {l : Launch} {G : jv_G} {M : jv_M} (b : Bool)  : jv_Ct G l yX0_full cX0_full 1 (some .int) 0 0 0 0 [.int (bI b)] M (jv_qi G (jv_pi (ful b) M)) := by
  refine jv_Ct.of (lv := [(0, .int (bI b))]) (by decide) (Nat.le_of_ble_eq_true rfl) rfl ?_
  intro x Q_ hl_ hQ X
  subst hl_
  refine jv_iload_n X dX0_full_0 0 rfl ?_
  have j10_1 : ∀ w : Int32, w = (if b = true then (nI 0) else (-4)) → jv_J x G 1 Q_ M 0 0 10 [(0, .int (bI b))] [.int w] := by
    intro w e_w
    exact jv_iret (v := w) X dX0_full_10 rfl hQ (Nat.le_of_ble_eq_true rfl) (Nat.le_of_ble_eq_true rfl) ⟨(by rw [e_w]; rfl), rfl⟩
  refine jb_if_eq 8 X dX0_full_1 (by decide) (fun c1 => ?_) (fun c1 => ?_)
  · skip
    refine jv_bipush (v := (-4)) X dX0_full_8 rfl ?_
    exact j10_1 _ (if_neg (Bool.eq_false_iff.mp c1)).symm
  · skip
    refine jv_iconst (v := nI 0) X dX0_full_4 rfl ?_
    refine jv_goto 10 X dX0_full_5 (by decide) ?_
    exact j10_1 _ (if_pos c1).symm
theorem hd_X0_state : jv_dd yX0_state 1 := by unfold jv_dd; decide +kernel
set_option maxHeartbeats 4000000 in
theorem c_X0_state {l : Launch} {G : jv_G} {M : jv_M} (b : Bool)  : jv_Ct G l yX0_state cX0_state 1 (some .int) 0 0 0 0 [.int (bI b)] M (jv_qi G (jv_pi (sta b) M)) := by
  refine jv_Ct.of (lv := [(0, .int (bI b))]) (by decide) (Nat.le_of_ble_eq_true rfl) rfl ?_
  intro x Q_ hl_ hQ X
  subst hl_
  refine jv_iload_n X dX0_state_0 0 rfl ?_
  have j10_1 : ∀ w : Int32, w = (if b = true then (nI 0) else (-3)) → jv_J x G 1 Q_ M 0 0 10 [(0, .int (bI b))] [.int w] := by
    intro w e_w
    exact jv_iret (v := w) X dX0_state_10 rfl hQ (Nat.le_of_ble_eq_true rfl) (Nat.le_of_ble_eq_true rfl) ⟨(by rw [e_w]; rfl), rfl⟩
  refine jb_if_eq 8 X dX0_state_1 (by decide) (fun c1 => ?_) (fun c1 => ?_)
  · skip
    refine jv_bipush (v := (-3)) X dX0_state_8 rfl ?_
    exact j10_1 _ (if_neg (Bool.eq_false_iff.mp c1)).symm
  · skip
    refine jv_iconst (v := nI 0) X dX0_state_4 rfl ?_
    refine jv_goto 10 X dX0_state_5 (by decide) ?_
    exact j10_1 _ (if_pos c1).symm
theorem hd_X0_nobody : jv_dd yX0_nobody 1 := by unfold jv_dd; decide +kernel
set_option maxHeartbeats 4000000 in
theorem c_X0_nobody {l : Launch} {G : jv_G} {M : jv_M} {a : Nat} (b : Bool)  : jv_Ct G l yX0_nobody cX0_nobody 2 (some .int) 0 0 0 0 [.ref a, .int (bI b)] M (jv_qi G (jv_pi (nob b) M)) := by
  refine jv_Ct.of (lv := [(0, .ref a), (1, .int (bI b))]) (by decide) (Nat.le_of_ble_eq_true rfl) rfl ?_
  intro x Q_ hl_ hQ X
  subst hl_
  refine jv_iload_n X dX0_nobody_0 1 rfl ?_
  have j9_1 : ∀ w : Int32, w = (if b = true then (nI 0) else (-1)) → jv_J x G 2 Q_ M 0 0 9 [(0, .ref a), (1, .int (bI b))] [.int w] := by
    intro w e_w
    exact jv_iret (v := w) X dX0_nobody_9 rfl hQ (Nat.le_of_ble_eq_true rfl) (Nat.le_of_ble_eq_true rfl) ⟨(by rw [e_w]; rfl), rfl⟩
  refine jb_if_eq 8 X dX0_nobody_1 (by decide) (fun c1 => ?_) (fun c1 => ?_)
  · skip
    refine jv_iconst (v := (-1)) X dX0_nobody_8 rfl ?_
    exact j9_1 _ (if_neg (Bool.eq_false_iff.mp c1)).symm
  · skip
    refine jv_iconst (v := nI 0) X dX0_nobody_4 rfl ?_
    refine jv_goto 9 X dX0_nobody_5 (by decide) ?_
    exact j9_1 _ (if_pos c1).symm
theorem hd_X0_isIn : jv_dd yX0_isIn 3 := by unfold jv_dd; decide +kernel
set_option maxHeartbeats 4000000 in
theorem c_X0_isIn {l : Launch} {G : jv_G} {M : jv_M} (u : Int32) (a : Int32) (b : Int32)  : jv_Ct G l yX0_isIn cX0_isIn 3 (some .boolean) 0 0 0 0 [.int u, .int a, .int b] M (jv_qi G (jv_pi (bI (v_in u a b)) M)) := by
  refine jv_Ct.of (lv := [(0, .int u), (1, .int a), (2, .int b)]) (by decide) (Nat.le_of_ble_eq_true rfl) rfl ?_
  intro x Q_ hl_ hQ X
  subst hl_
  refine jv_iload_n X dX0_isIn_0 0 rfl ?_
  refine jv_iload_n X dX0_isIn_1 1 rfl ?_
  have j15_1 : ∀ w : Bool, w = (if u < a then false else (if b < u then false else true)) → jv_J x G 3 Q_ M 0 0 15 [(0, .int u), (1, .int a), (2, .int b)] [.int (bI w)] := by
    intro w e_w
    exact jv_iret (v := bI w) X dX0_isIn_15 (bI_nar _) hQ (Nat.le_of_ble_eq_true rfl) (Nat.le_of_ble_eq_true rfl) ⟨(by rw [e_w]; rfl), rfl⟩
  refine jv_icmp_lt 14 X dX0_isIn_2 (by decide) (fun c2 => ?_) (fun c2 => ?_)
  · skip
    refine jv_iconst (v := nI 0) X dX0_isIn_14 rfl ?_
    exact j15_1 _ (if_pos c2).symm
  · skip
    refine jv_iload_n X dX0_isIn_5 0 rfl ?_
    refine jv_iload_n X dX0_isIn_6 2 rfl ?_
    refine jv_icmp_gt 14 X dX0_isIn_7 (by decide) (fun c7 => ?_) (fun c7 => ?_)
    · skip
      refine jv_iconst (v := nI 0) X dX0_isIn_14 rfl ?_
      exact j15_1 _ ((if_neg c2).trans (if_pos c7)).symm
    · skip
      refine jv_iconst (v := nI 1) X dX0_isIn_10 rfl ?_
      refine jv_goto 15 X dX0_isIn_11 (by decide) ?_
      exact j15_1 _ ((if_neg c2).trans (if_neg c7)).symm
theorem hd_X0_isRange : jv_dd yX0_isRange 1 := by unfold jv_dd; decide +kernel
set_option maxHeartbeats 4000000 in
theorem c_X0_isRange {l : Launch} {G : jv_G} {M : jv_M} (u : Int32)  : jv_Ct G l yX0_isRange cX0_isRange 1 (some .boolean) 1 0 0 22 [.int u] M (jv_qi G (jv_pi (bI (v_isRange u)) M)) := by
  refine jv_Ct.of (lv := [(0, .int u)]) (by decide) (Nat.le_of_ble_eq_true rfl) rfl ?_
  intro x Q_ hl_ hQ X
  subst hl_
  refine jv_iload_n X dX0_isRange_0 0 rfl ?_
  refine jv_iconst (v := nI 0) X dX0_isRange_1 rfl ?_
  refine jv_sipush (v := nI 5999) X dX0_isRange_2 rfl ?_
  refine jv_ask (jv_runS (As := [.int u, .int (nI 0), .int (nI 5999)]) (rest := []) X dX0_isRange_5 (c_X0_isIn u (nI 0) (nI 5999)) (lw_S q516 q517 q90 q518) hd_X0_isIn (Nat.le_of_ble_eq_true rfl) (Nat.le_of_ble_eq_true rfl) (Nat.le_of_ble_eq_true rfl) (Nat.le_of_ble_eq_true rfl) rfl (Nat.le_of_ble_eq_true rfl)) ?_
  exact jv_iret (v := bI (v_in u (nI 0) (nI 5999))) X dX0_isRange_8 (bI_nar _) hQ (Nat.le_of_ble_eq_true rfl) (Nat.le_of_ble_eq_true rfl) ⟨rfl, rfl⟩
theorem hd_X0_has : jv_dd yX0_has 2 := by unfold jv_dd; decide +kernel
set_option maxHeartbeats 4000000 in
theorem c_X0_has {l : Launch} {G : jv_G} {M : jv_M} (u : Int32) (k_ : Int32)  : jv_Ct G l yX0_has cX0_has 2 (some .boolean) 0 0 0 0 [.int u, .int k_] M (jv_qi G (jv_pi (bI (hasI u k_)) M)) := by
  refine jv_Ct.of (lv := [(0, .int u), (1, .int k_)]) (by decide) (Nat.le_of_ble_eq_true rfl) rfl ?_
  intro x Q_ hl_ hQ X
  subst hl_
  refine jv_iload_n X dX0_has_0 0 rfl ?_
  refine jv_iload_n X dX0_has_1 1 rfl ?_
  refine jv_ishr (w := u >>> (k_ &&& 31)) X dX0_has_2 rfl ?_
  refine jv_iconst (v := nI 1) X dX0_has_3 rfl ?_
  refine jv_iand (w := (u >>> (k_ &&& 31)) &&& (nI 1)) X dX0_has_4 rfl ?_
  refine jv_iconst (v := nI 1) X dX0_has_5 rfl ?_
  have j14_1 : ∀ w : Bool, w = (if ((u >>> (k_ &&& 31)) &&& (nI 1)) = (nI 1) then true else false) → jv_J x G 2 Q_ M 0 0 14 [(0, .int u), (1, .int k_)] [.int (bI w)] := by
    intro w e_w
    exact jv_iret (v := bI w) X dX0_has_14 (bI_nar _) hQ (Nat.le_of_ble_eq_true rfl) (Nat.le_of_ble_eq_true rfl) ⟨(by rw [e_w]; rfl), rfl⟩
  refine jv_icmp_ne 13 X dX0_has_6 (by decide) (fun c6 => ?_) (fun c6 => ?_)
  · skip
    refine jv_iconst (v := nI 0) X dX0_has_13 rfl ?_
    exact j14_1 _ (if_neg c6).symm
  · skip
    refine jv_iconst (v := nI 1) X dX0_has_9 rfl ?_
    refine jv_goto 14 X dX0_has_10 (by decide) ?_
    exact j14_1 _ (if_pos c6).symm
theorem hd_X0_first : jv_dd yX0_first 1 := by unfold jv_dd; decide +kernel
set_option maxHeartbeats 4000000 in
theorem c_X0_first_2 {l : Launch} {G : jv_G} {M : jv_M} {e : Nat} {f : Nat → Int32} (he : M e = some (.inl (G.2.2.1 0, 2, .inl f))) (u : Int32) (v : Int32) (h0 : f 0 = u) (h1 : f 1 = v) : jv_Ct G l yX0_first cX0_first 5 (some .int) 0 0 0 0 [.ref e] M (jv_qi G (jv_pi (fst2 u v) M)) := by
  refine jv_Ct.of (lv := [(0, .ref e)]) (by decide) (Nat.le_of_ble_eq_true rfl) rfl ?_
  intro x Q_ hl_ hQ X
  subst hl_
  refine jv_aload_n X dX0_first_0 0 rfl ?_
  refine jv_astore_n (lv' := [(1, .ref e), (0, .ref e)]) X dX0_first_1 rfl (by decide) rfl ?_
  refine jv_aload_n X dX0_first_2 0 rfl ?_
  refine jv_alen (t0 := 0) (v := nI 2) X dX0_first_3 he rfl rfl ?_
  refine jv_istore_n (lv' := [(2, .int (nI 2)), (1, .ref e), (0, .ref e)]) X dX0_first_4 rfl (by decide) rfl ?_
  refine jv_iconst (v := nI 0) X dX0_first_5 rfl ?_
  refine jv_istore_n (lv' := [(3, .int (nI 0)), (2, .int (nI 2)), (1, .ref e), (0, .ref e)]) X dX0_first_6 rfl (by decide) rfl ?_
  refine jv_iload_n X dX0_first_7 0 rfl ?_
  refine jv_iload_n X dX0_first_8 1 rfl ?_
  refine jn_icmp_ge 31 X dX0_first_9 (by decide) (by decide) (by decide) (fun cn_9 => absurd cn_9 (by decide)) (fun cn_9 => ?_)
  refine jv_aload_n X dX0_first_12 2 rfl ?_
  refine jv_iload_n X dX0_first_13 0 rfl ?_
  refine jv_iald (v := u) X dX0_first_14 he (jn_in (by decide) (by decide)) (by rw [nI_clamp (by decide)]; exact h0) ?_
  refine jv_istore (lv' := [(4, .int u), (3, .int (nI 0)), (2, .int (nI 2)), (1, .ref e), (0, .ref e)]) X dX0_first_15 (by decide) rfl ?_
  refine jv_iload X dX0_first_17 0 rfl ?_
  refine jv_if_eq 25 X dX0_first_19 (by decide) (fun c19 => ?_) (fun c19 => ?_)
  · skip
    refine jv_iinc (v := nI 1) (lv' := [(3, .int (nI 1)), (4, .int u), (2, .int (nI 2)), (1, .ref e), (0, .ref e)]) X dX0_first_25 1 rfl rfl (by decide) rfl ?_
    refine jv_goto 7 X dX0_first_28 (by decide) ?_
    refine jv_iload_n X dX0_first_7 0 rfl ?_
    refine jv_iload_n X dX0_first_8 2 rfl ?_
    refine jn_icmp_ge 31 X dX0_first_9 (by decide) (by decide) (by decide) (fun cn_9 => absurd cn_9 (by decide)) (fun cn_9 => ?_)
    refine jv_aload_n X dX0_first_12 3 rfl ?_
    refine jv_iload_n X dX0_first_13 0 rfl ?_
    refine jv_iald (v := v) X dX0_first_14 he (jn_in (by decide) (by decide)) (by rw [nI_clamp (by decide)]; exact h1) ?_
    refine jv_istore (lv' := [(4, .int v), (3, .int (nI 1)), (2, .int (nI 2)), (1, .ref e), (0, .ref e)]) X dX0_first_15 (by decide) rfl ?_
    refine jv_iload X dX0_first_17 0 rfl ?_
    refine jv_if_eq 25 X dX0_first_19 (by decide) (fun c19 => ?_) (fun c19 => ?_)
    · skip
      refine jv_iinc (v := nI 2) (lv' := [(3, .int (nI 2)), (4, .int v), (2, .int (nI 2)), (1, .ref e), (0, .ref e)]) X dX0_first_25 1 rfl rfl (by decide) rfl ?_
      refine jv_goto 7 X dX0_first_28 (by decide) ?_
      refine jv_iload_n X dX0_first_7 0 rfl ?_
      refine jv_iload_n X dX0_first_8 2 rfl ?_
      refine jn_icmp_ge 31 X dX0_first_9 (by decide) (by decide) (by decide) (fun cn_9 => ?_) (fun cn_9 => absurd cn_9 (by decide))
      refine jv_iconst (v := nI 0) X dX0_first_31 rfl ?_
      exact jv_iret (v := nI 0) X dX0_first_32 rfl hQ (Nat.le_of_ble_eq_true rfl) (Nat.le_of_ble_eq_true rfl) ⟨(by unfold fst2; first | (simp [*]; done) | (simp [*]; rfl)), rfl⟩
    · skip
      refine jv_iload X dX0_first_22 0 rfl ?_
      exact jv_iret (v := v) X dX0_first_24 rfl hQ (Nat.le_of_ble_eq_true rfl) (Nat.le_of_ble_eq_true rfl) ⟨(by unfold fst2; first | (simp [*]; done) | (simp [*]; rfl)), rfl⟩
  · skip
    refine jv_iload X dX0_first_22 0 rfl ?_
    exact jv_iret (v := u) X dX0_first_24 rfl hQ (Nat.le_of_ble_eq_true rfl) (Nat.le_of_ble_eq_true rfl) ⟨(by unfold fst2; first | (simp [*]; done) | (simp [*]; rfl)), rfl⟩
set_option maxHeartbeats 4000000 in
theorem c_X0_first_3 {l : Launch} {G : jv_G} {M : jv_M} {e : Nat} {f : Nat → Int32} (he : M e = some (.inl (G.2.2.1 0, 3, .inl f))) (u : Int32) (v : Int32) (w_ : Int32) (h0 : f 0 = u) (h1 : f 1 = v) (h2 : f 2 = w_) : jv_Ct G l yX0_first cX0_first 5 (some .int) 0 0 0 0 [.ref e] M (jv_qi G (jv_pi (fst3 u v w_) M)) := by
  refine jv_Ct.of (lv := [(0, .ref e)]) (by decide) (Nat.le_of_ble_eq_true rfl) rfl ?_
  intro x Q_ hl_ hQ X
  subst hl_
  refine jv_aload_n X dX0_first_0 0 rfl ?_
  refine jv_astore_n (lv' := [(1, .ref e), (0, .ref e)]) X dX0_first_1 rfl (by decide) rfl ?_
  refine jv_aload_n X dX0_first_2 0 rfl ?_
  refine jv_alen (t0 := 0) (v := nI 3) X dX0_first_3 he rfl rfl ?_
  refine jv_istore_n (lv' := [(2, .int (nI 3)), (1, .ref e), (0, .ref e)]) X dX0_first_4 rfl (by decide) rfl ?_
  refine jv_iconst (v := nI 0) X dX0_first_5 rfl ?_
  refine jv_istore_n (lv' := [(3, .int (nI 0)), (2, .int (nI 3)), (1, .ref e), (0, .ref e)]) X dX0_first_6 rfl (by decide) rfl ?_
  refine jv_iload_n X dX0_first_7 0 rfl ?_
  refine jv_iload_n X dX0_first_8 1 rfl ?_
  refine jn_icmp_ge 31 X dX0_first_9 (by decide) (by decide) (by decide) (fun cn_9 => absurd cn_9 (by decide)) (fun cn_9 => ?_)
  refine jv_aload_n X dX0_first_12 2 rfl ?_
  refine jv_iload_n X dX0_first_13 0 rfl ?_
  refine jv_iald (v := u) X dX0_first_14 he (jn_in (by decide) (by decide)) (by rw [nI_clamp (by decide)]; exact h0) ?_
  refine jv_istore (lv' := [(4, .int u), (3, .int (nI 0)), (2, .int (nI 3)), (1, .ref e), (0, .ref e)]) X dX0_first_15 (by decide) rfl ?_
  refine jv_iload X dX0_first_17 0 rfl ?_
  refine jv_if_eq 25 X dX0_first_19 (by decide) (fun c19 => ?_) (fun c19 => ?_)
  · skip
    refine jv_iinc (v := nI 1) (lv' := [(3, .int (nI 1)), (4, .int u), (2, .int (nI 3)), (1, .ref e), (0, .ref e)]) X dX0_first_25 1 rfl rfl (by decide) rfl ?_
    refine jv_goto 7 X dX0_first_28 (by decide) ?_
    refine jv_iload_n X dX0_first_7 0 rfl ?_
    refine jv_iload_n X dX0_first_8 2 rfl ?_
    refine jn_icmp_ge 31 X dX0_first_9 (by decide) (by decide) (by decide) (fun cn_9 => absurd cn_9 (by decide)) (fun cn_9 => ?_)
    refine jv_aload_n X dX0_first_12 3 rfl ?_
    refine jv_iload_n X dX0_first_13 0 rfl ?_
    refine jv_iald (v := v) X dX0_first_14 he (jn_in (by decide) (by decide)) (by rw [nI_clamp (by decide)]; exact h1) ?_
    refine jv_istore (lv' := [(4, .int v), (3, .int (nI 1)), (2, .int (nI 3)), (1, .ref e), (0, .ref e)]) X dX0_first_15 (by decide) rfl ?_
    refine jv_iload X dX0_first_17 0 rfl ?_
    refine jv_if_eq 25 X dX0_first_19 (by decide) (fun c19 => ?_) (fun c19 => ?_)
    · skip
      refine jv_iinc (v := nI 2) (lv' := [(3, .int (nI 2)), (4, .int v), (2, .int (nI 3)), (1, .ref e), (0, .ref e)]) X dX0_first_25 1 rfl rfl (by decide) rfl ?_
      refine jv_goto 7 X dX0_first_28 (by decide) ?_
      refine jv_iload_n X dX0_first_7 0 rfl ?_
      refine jv_iload_n X dX0_first_8 2 rfl ?_
      refine jn_icmp_ge 31 X dX0_first_9 (by decide) (by decide) (by decide) (fun cn_9 => absurd cn_9 (by decide)) (fun cn_9 => ?_)
      refine jv_aload_n X dX0_first_12 3 rfl ?_
      refine jv_iload_n X dX0_first_13 0 rfl ?_
      refine jv_iald (v := w_) X dX0_first_14 he (jn_in (by decide) (by decide)) (by rw [nI_clamp (by decide)]; exact h2) ?_
      refine jv_istore (lv' := [(4, .int w_), (3, .int (nI 2)), (2, .int (nI 3)), (1, .ref e), (0, .ref e)]) X dX0_first_15 (by decide) rfl ?_
      refine jv_iload X dX0_first_17 0 rfl ?_
      refine jv_if_eq 25 X dX0_first_19 (by decide) (fun c19 => ?_) (fun c19 => ?_)
      · skip
        refine jv_iinc (v := nI 3) (lv' := [(3, .int (nI 3)), (4, .int w_), (2, .int (nI 3)), (1, .ref e), (0, .ref e)]) X dX0_first_25 1 rfl rfl (by decide) rfl ?_
        refine jv_goto 7 X dX0_first_28 (by decide) ?_
        refine jv_iload_n X dX0_first_7 0 rfl ?_
        refine jv_iload_n X dX0_first_8 2 rfl ?_
        refine jn_icmp_ge 31 X dX0_first_9 (by decide) (by decide) (by decide) (fun cn_9 => ?_) (fun cn_9 => absurd cn_9 (by decide))
        refine jv_iconst (v := nI 0) X dX0_first_31 rfl ?_
        exact jv_iret (v := nI 0) X dX0_first_32 rfl hQ (Nat.le_of_ble_eq_true rfl) (Nat.le_of_ble_eq_true rfl) ⟨(by unfold fst3; first | (simp [*]; done) | (simp [*]; rfl)), rfl⟩
      · skip
        refine jv_iload X dX0_first_22 0 rfl ?_
        exact jv_iret (v := w_) X dX0_first_24 rfl hQ (Nat.le_of_ble_eq_true rfl) (Nat.le_of_ble_eq_true rfl) ⟨(by unfold fst3; first | (simp [*]; done) | (simp [*]; rfl)), rfl⟩
    · skip
      refine jv_iload X dX0_first_22 0 rfl ?_
      exact jv_iret (v := v) X dX0_first_24 rfl hQ (Nat.le_of_ble_eq_true rfl) (Nat.le_of_ble_eq_true rfl) ⟨(by unfold fst3; first | (simp [*]; done) | (simp [*]; rfl)), rfl⟩
  · skip
    refine jv_iload X dX0_first_22 0 rfl ?_
    exact jv_iret (v := u) X dX0_first_24 rfl hQ (Nat.le_of_ble_eq_true rfl) (Nat.le_of_ble_eq_true rfl) ⟨(by unfold fst3; first | (simp [*]; done) | (simp [*]; rfl)), rfl⟩
theorem hd_X3_hasSame : jv_dd yX3_hasSame 1 := by unfold jv_dd; decide +kernel
set_option maxHeartbeats 4000000 in
theorem c_X3_hasSame {l : Launch} {G : jv_G} {M : jv_M} {σ : jk_A} (hG : jk_G G σ) {τ : Nat → Nat} {t b p a c : Nat} {S : Nat → Nat} (hp : jpack G M τ t b S p) (hW : wfB S) (hp6 : p < 6)  (ha : jver M a c) (hc : c < 1000) : jv_Ct G l yX3_hasSame cX3_hasSame 4 (some .boolean) 3 1 4 71 [.ref b, .ref a] M (jv_qi G (jv_pi (bI (dupN S p c (v_of S p 0))) M)) := by
  refine jv_Ct.of (lv := [(0, .ref b), (1, .ref a)]) (by decide) (Nat.le_of_ble_eq_true rfl) rfl ?_
  intro x Q_ hl_ hQ X
  subst hl_
  obtain ⟨lv, V, hb, hfb, ⟨mc_, e, f, hl, he, hn5, hf, -, -, -⟩, hv⟩ := hp
  have ho := hW.op hp6
  have hnv := hW.nv hp6
  refine jv_aload_n X dX3_hasSame_0 0 rfl ?_
  refine jv_get X dX3_hasSame_1 hb (T := TX3) (N := 2) (C := RX3) rfl in_X3 0 (by decide) q352 rfl rfl ?_
  refine jv_callr (jv_runV (As := []) (rest := []) X dX3_hasSame_4 (c_J2_iterator hl) (lw_V q568 q294 q295 q94 q296) hd_J2_iterator hl rfl (Nat.le_of_ble_eq_true rfl) (Nat.le_of_ble_eq_true rfl) (by omega) (by omega) rfl (Nat.le_of_ble_eq_true rfl)) (fun q_1 M_ h_ => ?_)
  obtain ⟨hnq_1, hbq_1, hm_⟩ := h_
  rw [hm_]
  clear hm_
  refine jv_astore_n (lv' := [(2, .ref q_1), (0, .ref b), (1, .ref a)]) X dX3_hasSame_7 rfl (by decide) rfl ?_
  have lp8_2 : ∀ (d_8 : Nat) (i : Nat) (lr : Int32), i ≤ v_of S p 0 → dupN S p c i = false → v_of S p 0 - i < d_8 → jv_J x G 4 Q_ (jv_up M q_1 (.inr (24, [.int (nI i), .int lr, .int mc_, .ref lv]))) 1 4 8 [(0, .ref b), (1, .ref a), (2, .ref q_1)] [] := by
    intro d_8
    induction d_8 with
    | zero => intro i lr hi5 hno hm_8; exact absurd hm_8 (Nat.not_lt_zero _)
    | succ d_8 ih_8 =>
      intro i lr hi5 hno hm_8
      refine jv_aload_n X dX3_hasSame_8 2 rfl ?_
      refine jv_askF (jv_runF (xm := jx_hasNext) (As := []) (rest := []) X dX3_hasSame_9 (hG.f X).2.2.2.2.2.1 (c_J8_hasNext jv_up_s ((jag.new jag.rf hnq_1).c hl) (by omega) (by omega)) (lw_F q570 q321 q323 q101 q325) hd_jx_hasNext jv_up_s rfl (Nat.le_of_ble_eq_true rfl) (Nat.le_of_ble_eq_true rfl) (Nat.le_of_ble_eq_true rfl) (Nat.le_of_ble_eq_true rfl) rfl (Nat.le_of_ble_eq_true rfl)) ?_
      refine jb_if_eq 40 X dX3_hasSame_14 (by decide) (fun c14 => ?_) (fun c14 => ?_)
      · skip
        have hne_ := hn_f c14
        refine jv_iconst (v := nI 0) X dX3_hasSame_40 rfl ?_
        refine jv_fewer (jag.few (jag.new jag.rf hnq_1)) ?_
        exact jv_iret (v := bI false) X dX3_hasSame_41 (bI_nar _) hQ (Nat.le_of_ble_eq_true rfl) (Nat.le_of_ble_eq_true rfl) ⟨(by rw [show v_of S p 0 = i by omega, hno]), rfl⟩
      · skip
        have hne_ := hn_t c14
        refine jv_aload_n X dX3_hasSame_17 2 rfl ?_
        refine jv_callFr (jv_runF (xm := jx_next) (As := []) (rest := []) X dX3_hasSame_18 (hG.f X).2.2.2.2.2.2.1 (c_J8_next jv_up_s ((jag.new jag.rf hnq_1).c hl) ((jag.new jag.rf hnq_1).c he) (V i) hbq_1 (by omega) (by omega) (by omega) (by rw [hf _ (by omega)]; rfl)) (lw_F q572 q330 q332 q101 q334) hd_jx_next jv_up_s rfl (Nat.le_of_ble_eq_true rfl) (Nat.le_of_ble_eq_true rfl) (Nat.le_of_ble_eq_true rfl) (Nat.le_of_ble_eq_true rfl) rfl (Nat.le_of_ble_eq_true rfl)) (fun rr_ M_ h_ => ?_)
        obtain ⟨hr_, hm_⟩ := h_
        rw [hr_, hm_]
        clear hr_ hm_
        rw [jv_up_up]
        have hvr__3 := hW.vr hp6 (v := i) (by omega)
        refine jv_castS X dX3_hasSame_23 ((jag.new jag.rf hnq_1).c (hv i (by omega)).1.c) (r := (RX4, TX4, 3)) rfl q573 ?_
        refine jv_astore_n (lv' := [(3, .ref (V i)), (0, .ref b), (1, .ref a), (2, .ref q_1)]) X dX3_hasSame_26 rfl (by decide) rfl ?_
        refine jv_aload_n X dX3_hasSame_27 0 rfl ?_
        refine jv_aload_n X dX3_hasSame_28 2 rfl ?_
        refine jv_ask (jv_runV (As := [.ref a]) (rest := []) X dX3_hasSame_29 (c_X4_isSame (c := v_of S p (2 + i)) (d := c) ((jag.new jag.rf hnq_1).c (hv i (by omega)).1.c) ((jag.new jag.rf hnq_1).c ha.c) (by omega) (by omega)) (lw_V q574 q575 q576 q109 q577) hd_X4_isSame ((jag.new jag.rf hnq_1).c (hv i (by omega)).1.c) rfl (Nat.le_of_ble_eq_true rfl) (Nat.le_of_ble_eq_true rfl) (by omega) (by omega) rfl (Nat.le_of_ble_eq_true rfl)) ?_
        refine jb_if_eq 37 X dX3_hasSame_32 (by decide) (fun c32 => ?_) (fun c32 => ?_)
        · skip
          refine jv_goto 8 X dX3_hasSame_37 (by decide) ?_
          refine jv_lv (lv' := [(0, .ref b), (1, .ref a), (2, .ref q_1)]) [1, 2, 3] rfl ?_
          exact ih_8 (i + 1) (nI i) (by omega) (by unfold dupN; rw [hno, show decide (v_of S p (2 + i) = c) = false by simpa using c32]; rfl) (by omega)
        · skip
          refine jv_iconst (v := nI 1) X dX3_hasSame_35 rfl ?_
          refine jv_fewer (jag.few (jag.new jag.rf hnq_1)) ?_
          exact jv_iret (v := bI true) X dX3_hasSame_36 (bI_nar _) hQ (Nat.le_of_ble_eq_true rfl) (Nat.le_of_ble_eq_true rfl) ⟨(by rw [dupN_t (v := i) (by omega) (by simpa using c32)]), rfl⟩
  refine jv_lv (lv' := [(0, .ref b), (1, .ref a), (2, .ref q_1)]) [1, 2, 0] rfl ?_
  exact lp8_2 (v_of S p 0 + 1) 0 (-1) (Nat.zero_le _) rfl (by omega)
theorem hd_X3_all : jv_dd yX3_all 0 := by unfold jv_dd; decide +kernel
set_option maxHeartbeats 4000000 in
theorem c_X3_all {l : Launch} {G : jv_G} {M : jv_M} {τ : Nat → Nat} {t b p : Nat} {S : Nat → Nat} (hp : jpack G M τ t b S p) (hW : wfB S) (hp6 : p < 6)   : jv_Ct G l yX3_all cX3_all 1 (some .int) 1 0 0 20 [.ref b] M (jv_qi G (jv_pi (nI (v_allStates S p)) M)) := by
  refine jv_Ct.of (lv := [(0, .ref b)]) (by decide) (Nat.le_of_ble_eq_true rfl) rfl ?_
  intro x Q_ hl_ hQ X
  subst hl_
  obtain ⟨lv, V, hb, hfb, ⟨mc_, e, f, hl, he, hn5, hf, -, -, -⟩, hv⟩ := hp
  have ho := hW.op hp6
  have hnv := hW.nv hp6
  refine jv_iconst (v := nI 1) X dX3_all_0 rfl ?_
  refine jv_aload_n X dX3_all_1 0 rfl ?_
  refine jv_get X dX3_all_2 hb (T := TX3) (N := 2) (C := RX3) rfl in_X3 0 (by decide) q352 rfl rfl ?_
  refine jv_ask (jv_runV (As := []) (rest := [.int (nI 1)]) X dX3_all_5 (c_J2_size hl) (lw_V q648 q284 q285 q94 q286) hd_J2_size hl rfl (Nat.le_of_ble_eq_true rfl) (Nat.le_of_ble_eq_true rfl) (Nat.le_of_ble_eq_true rfl) (Nat.le_of_ble_eq_true rfl) rfl (Nat.le_of_ble_eq_true rfl)) ?_
  refine jv_ishl (w := nI (2 ^ (v_of S p 0))) X dX3_all_8 (ni_shl1 (by omega)) ?_
  refine jv_iconst (v := nI 1) X dX3_all_9 rfl ?_
  refine jv_isub (w := nI (2 ^ v_of S p 0 - 1)) X dX3_all_10 (pk_sub (Nat.two_pow_pos _)) ?_
  refine jv_bipush (v := nI 32) X dX3_all_11 rfl ?_
  refine jv_ior (w := nI (v_allStates S p)) X dX3_all_13 (ni_or _ _) ?_
  exact jv_iret (v := nI (v_allStates S p)) X dX3_all_14 rfl hQ (Nat.le_of_ble_eq_true rfl) (Nat.le_of_ble_eq_true rfl) ⟨rfl, rfl⟩
theorem hd_X3_isState : jv_dd yX3_isState 1 := by unfold jv_dd; decide +kernel
set_option maxHeartbeats 4000000 in
theorem c_X3_isState {l : Launch} {G : jv_G} {M : jv_M} {τ : Nat → Nat} {t b p : Nat} {S : Nat → Nat} (hp : jpack G M τ t b S p) (hW : wfB S) (hp6 : p < 6) (s_ : Int32)  : jv_Ct G l yX3_isState cX3_isState 2 (some .boolean) 1 0 0 22 [.ref b, .int s_] M (jv_qi G (jv_pi (bI (if s_ = nI 5 then true else v_in s_ (nI 0) (nI (v_of S p 0) - nI 1))) M)) := by
  refine jv_Ct.of (lv := [(0, .ref b), (1, .int s_)]) (by decide) (Nat.le_of_ble_eq_true rfl) rfl ?_
  intro x Q_ hl_ hQ X
  subst hl_
  obtain ⟨lv, V, hb, hfb, ⟨mc_, e, f, hl, he, hn5, hf, -, -, -⟩, hv⟩ := hp
  have ho := hW.op hp6
  have hnv := hW.nv hp6
  refine jv_iload_n X dX3_isState_0 1 rfl ?_
  refine jv_iconst (v := nI 5) X dX3_isState_1 rfl ?_
  have j27_1 : ∀ w : Bool, w = (if s_ = (nI 5) then true else (if (v_in s_ (nI 0) (nI (v_of S p 0) - nI 1)) = true then true else false)) → jv_J x G 2 Q_ M 0 0 27 [(0, .ref b), (1, .int s_)] [.int (bI w)] := by
    intro w e_w
    exact jv_iret (v := bI w) X dX3_isState_27 (bI_nar _) hQ (Nat.le_of_ble_eq_true rfl) (Nat.le_of_ble_eq_true rfl) ⟨(by rw [e_w, ite_b]), rfl⟩
  refine jv_icmp_eq 22 X dX3_isState_2 (by decide) (fun c2 => ?_) (fun c2 => ?_)
  · skip
    refine jv_iconst (v := nI 1) X dX3_isState_22 rfl ?_
    refine jv_goto 27 X dX3_isState_23 (by decide) ?_
    exact j27_1 _ (if_pos c2).symm
  · skip
    refine jv_iload_n X dX3_isState_5 1 rfl ?_
    refine jv_iconst (v := nI 0) X dX3_isState_6 rfl ?_
    refine jv_aload_n X dX3_isState_7 0 rfl ?_
    refine jv_get X dX3_isState_8 hb (T := TX3) (N := 2) (C := RX3) rfl in_X3 0 (by decide) q352 rfl rfl ?_
    refine jv_ask (jv_runV (As := []) (rest := [.int (nI 0), .int s_]) X dX3_isState_11 (c_J2_size hl) (lw_V q648 q284 q285 q94 q286) hd_J2_size hl rfl (Nat.le_of_ble_eq_true rfl) (Nat.le_of_ble_eq_true rfl) (Nat.le_of_ble_eq_true rfl) (Nat.le_of_ble_eq_true rfl) rfl (Nat.le_of_ble_eq_true rfl)) ?_
    refine jv_iconst (v := nI 1) X dX3_isState_14 rfl ?_
    refine jv_isub (w := nI (v_of S p 0) - nI 1) X dX3_isState_15 rfl ?_
    refine jv_ask (jv_runSN (As := [.int s_, .int (nI 0), .int (nI (v_of S p 0) - nI 1)]) (rest := []) X dX3_isState_16 (c_X0_isIn s_ (nI 0) (nI (v_of S p 0) - nI 1)) (lw_meth q518) q1045 q90 q517 hd_X0_isIn (Nat.le_of_ble_eq_true rfl) (Nat.le_of_ble_eq_true rfl) (Nat.le_of_ble_eq_true rfl) (Nat.le_of_ble_eq_true rfl) rfl (Nat.le_of_ble_eq_true rfl)) ?_
    refine jb_if_eq 26 X dX3_isState_19 (by decide) (fun c19 => ?_) (fun c19 => ?_)
    · skip
      refine jv_iconst (v := nI 0) X dX3_isState_26 rfl ?_
      exact j27_1 _ ((if_neg c2).trans (if_neg (Bool.eq_false_iff.mp c19))).symm
    · skip
      refine jv_iconst (v := nI 1) X dX3_isState_22 rfl ?_
      refine jv_goto 27 X dX3_isState_23 (by decide) ?_
      exact j27_1 _ ((if_neg c2).trans (if_pos c19)).symm
theorem hd_X3_rank : jv_dd yX3_rank 1 := by unfold jv_dd; decide +kernel
set_option maxHeartbeats 4000000 in
theorem c_X3_rank {l : Launch} {G : jv_G} {M : jv_M} {σ : jk_A} (hG : jk_G G σ) {τ : Nat → Nat} {t b p : Nat} {S : Nat → Nat} (hp : jpack G M τ t b S p) (hW : wfB S) (hp6 : p < 6) (v : Nat) (hv1 : v < v_of S p 0) : jv_Ct G l yX3_rank cX3_rank 2 (some .int) 4 1 4 95 [.ref b, .int (nI v)] M (jv_qi G (jv_pi (nI (bef S p v)) M)) := by
  refine jv_Ct.of (lv := [(0, .ref b), (1, .int (nI v))]) (by decide) (Nat.le_of_ble_eq_true rfl) rfl ?_
  intro x Q_ hl_ hQ X
  subst hl_
  have hp_ := hp
  obtain ⟨lv, V, hb, hfb, ⟨mc_, e, f, hl, he, hn5, hf, -, -, -⟩, hv⟩ := hp
  have ho := hW.op hp6
  have hnv := hW.nv hp6
  refine jv_iload_n X dX3_rank_0 1 rfl ?_
  refine jv_iconst (v := nI 5) X dX3_rank_1 rfl ?_
  refine jn_icmp_ne 9 X dX3_rank_2 (by decide) (by omega) (by decide) (fun c2 => ?_) (fun c2 => ?_)
  · skip
    refine jv_aload_n X dX3_rank_9 0 rfl ?_
    refine jv_iload_n X dX3_rank_10 1 rfl ?_
    refine jv_ask (jv_runV (As := [.int (nI v)]) (rest := []) X dX3_rank_11 (c_X3_placeOf hG hp_ hW (by omega) v (by omega)) (lw_V q683 q609 q610 q102 q611) hd_X3_placeOf hb rfl (Nat.le_of_ble_eq_true rfl) (Nat.le_of_ble_eq_true rfl) (by omega) (by omega) rfl (Nat.le_of_ble_eq_true rfl)) ?_
    exact jv_iret (v := nI (bef S p v)) X dX3_rank_14 rfl hQ (Nat.le_of_ble_eq_true rfl) (Nat.le_of_ble_eq_true rfl) ⟨rfl, rfl⟩
  · skip
    exact (absurd c2 (by omega))
