/-! what changed does -/
set_option maxRecDepth 100000
theorem dqi_2 {h i : Nat} (hh : h < 17) (hi : i < 17) : dqi (dqi h 1) i = dqi h (i + 1) := by
  unfold dqi
  repeat' split
  all_goals omega
theorem dqi_0 {h : Nat} (hh : h < 17) : dqi h 0 = h := by
  unfold dqi
  split <;> omega
theorem jdq.r {G : jv_G} {M : jv_M} {a e h n : Nat} {f : Nat → Option Nat} {Q : Nat → Nat} (hq : jdq G M a e h n f Q) (hn : 1 ≤ n) : jdq G (jv_up (jv_up M e (.inl (G.2.2.1 1, 17, .inr (.inr (.inr (.inr (va_up f h none))))))) a (.inr (23, [.ref e, .int (nI (dqi h 1)), .int (nI (dqi h n))]))) a e (dqi h 1) (n - 1) (va_up f h none) (fun i => Q (i + 1)) := by
  obtain ⟨ha, he, hg, hh, hn9, hQ⟩ := hq
  refine ⟨?_, (jv_up_n (ck_ne he ha rfl)).trans jv_up_s, hg, dqi_lt hh (by decide), by omega, fun i hi => ?_⟩
  · rw [dqi_2 hh (by omega), show n - 1 + 1 = n by omega]; exact jv_up_s
  · rw [dqi_2 hh (by omega)]
    show va_up f h none (dqi h (i + 1)) = some (Q (i + 1))
    rw [va_up_ne _ _ (fun y => by have := dqi_inj (i := i + 1) (j := 0) hh (by omega) (by decide) (by rw [dqi_0 hh]; exact y); omega)]
    exact hQ (i + 1) (by omega)
/-- the memory is the same but for two cells -/
def jx2 (M M' : jv_M) (a e : Nat) : Prop := ∀ z, z ≠ a → z ≠ e → M' z = M z
theorem jx2.u {M : jv_M} {a e : Nat} {x y : va_E} : jx2 M (jv_up (jv_up M e x) a y) a e := fun z h1 h2 => by rw [jv_up_n h1, jv_up_n h2]
theorem jx2.t {M M1 M2 : jv_M} {a e : Nat} (h : jx2 M M1 a e) (h2 : jx2 M1 M2 a e) : jx2 M M2 a e := fun z a1 a2 => (h2 z a1 a2).trans (h z a1 a2)
theorem hd_X0_changed : jv_dd yX0_changed 2 := by unfold jv_dd; decide +kernel
set_option maxHeartbeats 4000000 in
theorem c_X0_changed {l : Launch} {G : jv_G} {M : jv_M} {σ : jk_A} (hG : jk_G G σ) {xa b pa ip rp e h n v lp lr la : Nat} {sv : Option Nat} {eA_ fA_ : Int32} {f : Nat → Option Nat} {Q : Nat → Nat} (hx : M xa = some (.inr (0, [.ref b, .ref pa, .ref ip, .ref rp, va_rf sv, .int eA_, .int fA_]))) (hq : jdq G M pa e h n f Q) (hn8 : n ≤ 8) (hv : M v = some (.inr (1, [.ref lp, .ref lr, .ref la]))) (hfv : G.1 ≤ v) (a_ : Int32)  : jv_Ct G l yX0_changed cX0_changed 3 (some .int) 3 0 0 65 [.ref xa, .ref v, .int a_] M (jv_qi G (fun r M' => r = a_ ∧ jx2 M M' pa e ∧ ∃ h' f', (if n < 8 then jdq G M' pa e h' (n + 1) f' (fun i => if i = n then v else Q i) else jdq G M' pa e h' 8 f' (fun i => (fun i => if i = n then v else Q i) (i + 1))))) := by
  refine jv_Ct.of (lv := [(0, .ref xa), (1, .ref v), (2, .int a_)]) (by decide) (Nat.le_of_ble_eq_true rfl) rfl ?_
  intro x Q_ hl_ hQ X
  subst hl_
  refine jv_aload_n X dX0_changed_0 0 rfl ?_
  refine jv_get X dX0_changed_1 hx (T := TX0) (N := 7) (C := RX0) rfl in_X0 1 (by decide) q258 rfl rfl ?_
  refine jv_aload_n X dX0_changed_4 1 rfl ?_
  refine jv_callv (jv_runV (As := [.ref v]) (rest := []) X dX0_changed_5 (c_J7_addLast hG hq hv hfv hn8) (lw_V q472 q473 q474 q99 q475) hd_J7_addLast hq.1 rfl (Nat.le_of_ble_eq_true rfl) (Nat.le_of_ble_eq_true rfl) (Nat.le_of_ble_eq_true rfl) (Nat.le_of_ble_eq_true rfl) rfl (Nat.le_of_ble_eq_true rfl)) (fun M_ h_ => ?_)
  have hz_ := hq.z hn8 (v := v)
  rw [h_]
  clear h_
  have hx1_ := (jx2.u (M := M) (x := (.inl (G.2.2.1 1, 17, .inr (.inr (.inr (.inr (va_up f (dqi h n) (some v)))))))) (y := (.inr (23, [.ref e, .int (nI h), .int (nI (dqi h (n + 1)))]))) xa (ck_ne hx hq.1 rfl) (ck_ne hx hq.2.1 rfl)).trans hx
  obtain ⟨M1_, hM1_⟩ : ∃ M1, M1 = (jv_up (jv_up M e (.inl (G.2.2.1 1, 17, .inr (.inr (.inr (.inr (va_up f (dqi h n) (some v)))))))) pa (.inr (23, [.ref e, .int (nI h), .int (nI (dqi h (n + 1)))]))) := ⟨_, rfl⟩
  have hj1_ : jx2 M M1_ pa e := by rw [hM1_]; exact jx2.u
  rw [← hM1_] at hz_ hx1_ ⊢
  refine jv_aload_n X dX0_changed_8 0 rfl ?_
  refine jv_get X dX0_changed_9 hx1_ (T := TX0) (N := 7) (C := RX0) rfl in_X0 1 (by decide) q258 rfl rfl ?_
  refine jv_ask (jv_runV (As := []) (rest := []) X dX0_changed_12 (c_J7_size hG hz_) (lw_V q490 q491 q492 q99 q493) hd_J7_size hz_.1 rfl (Nat.le_of_ble_eq_true rfl) (Nat.le_of_ble_eq_true rfl) (Nat.le_of_ble_eq_true rfl) (Nat.le_of_ble_eq_true rfl) rfl (Nat.le_of_ble_eq_true rfl)) ?_
  refine jv_bipush (v := nI 8) X dX0_changed_15 rfl ?_
  refine jn_icmp_le 28 X dX0_changed_17 (by decide) (by omega) (by decide) (fun c17 => ?_) (fun c17 => ?_)
  · skip
    refine jv_iload_n X dX0_changed_28 2 rfl ?_
    exact jv_iret (v := a_) X dX0_changed_29 rfl hQ (Nat.le_of_ble_eq_true rfl) (Nat.le_of_ble_eq_true rfl) ⟨rfl, hj1_, _, _, (by rw [if_pos (show n < 8 by omega)]; exact hz_)⟩
  · skip
    refine jv_aload_n X dX0_changed_20 0 rfl ?_
    refine jv_get X dX0_changed_21 hx1_ (T := TX0) (N := 7) (C := RX0) rfl in_X0 1 (by decide) q258 rfl rfl ?_
    refine jv_callr (jv_runV (As := []) (rest := []) X dX0_changed_24 (c_J7_removeFirst hG hz_ (by omega)) (lw_V q497 q498 q499 q99 q500) hd_J7_removeFirst hz_.1 rfl (Nat.le_of_ble_eq_true rfl) (Nat.le_of_ble_eq_true rfl) (Nat.le_of_ble_eq_true rfl) (Nat.le_of_ble_eq_true rfl) rfl (Nat.le_of_ble_eq_true rfl)) (fun rr_ M2_ h_ => ?_)
    obtain ⟨-, hm_⟩ := h_
    have hz2_ := hz_.r (by omega)
    have hj2_ : jx2 M M2_ pa e := by rw [hm_]; exact hj1_.t jx2.u
    rw [← hm_] at hz2_
    refine jv_pop X dX0_changed_27 rfl ?_
    refine jv_iload_n X dX0_changed_28 2 rfl ?_
    exact jv_iret (v := a_) X dX0_changed_29 rfl hQ (Nat.le_of_ble_eq_true rfl) (Nat.le_of_ble_eq_true rfl) ⟨rfl, hj2_, _, _, (by rw [if_neg (show ¬ n < 8 by omega)]; have e8 : n + 1 - 1 = 8 := (by omega); rw [e8] at hz2_; exact hz2_)⟩
