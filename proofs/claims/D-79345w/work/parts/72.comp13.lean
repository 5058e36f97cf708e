/-! the component, thirteenth -/
set_option maxRecDepth 100000
theorem cnt_up {a k : Nat} (h : a < 2 ^ k) : ∀ j, j ≤ k → cntN (a + 2 ^ k) j = cntN a j
  | 0, _ => rfl
  | j + 1, hj => by
    show cntN (a + 2 ^ k) j + (a + 2 ^ k) / 2 ^ j % 2 = cntN a j + a / 2 ^ j % 2
    have e : (a + 2 ^ k) / 2 ^ j = a / 2 ^ j + 2 * 2 ^ (k - j - 1) := by
      rw [show 2 * 2 ^ (k - j - 1) = 2 ^ (k - j) by rw [← Nat.pow_succ']; congr 1; omega, show 2 ^ k = 2 ^ (k - j) * 2 ^ j by rw [← Nat.pow_add]; congr 1; omega]
      exact Nat.add_mul_div_right _ _ (Nat.two_pow_pos _)
    rw [cnt_up h j (by omega), e]
    omega
theorem cnt_or {a k : Nat} (h : a < 2 ^ k) (hk : k < 64) : cntN (a ||| 2 ^ k) 64 = cntN a 64 + 1 := by
  have e : a ||| 2 ^ k = a + 2 ^ k := by
    have := Nat.two_pow_add_eq_or_of_lt h 1
    rw [Nat.mul_one] at this
    rw [Nat.or_comm, ← this, Nat.add_comm]
  have h2 : a + 2 ^ k < 2 ^ (k + 1) := by rw [Nat.pow_succ]; omega
  have e1 := cnt_z (n := 63 - k) h2
  have e2 := cnt_z (n := 64 - k) h
  rw [show k + 1 + (63 - k) = 64 by omega] at e1
  rw [show k + (64 - k) = 64 by omega] at e2
  rw [e, e1, e2]
  show cntN (a + 2 ^ k) k + (a + 2 ^ k) / 2 ^ k % 2 = _
  rw [cnt_up h k (Nat.le_refl _), Nat.add_div_right _ (Nat.two_pow_pos _), Nat.div_eq_of_lt h]
theorem cnt_rs (S : Nat → Nat) (T : t_T2) (i : Nat) : ∀ k, k ≤ 60 → cntN (rsK S T i k) 64 = roN S T i k
  | 0, _ => by show cntN 0 64 = 0; decide +kernel
  | k + 1, hk => by
    unfold rsK roN
    have ih := cnt_rs S T i k (by omega)
    by_cases h : v_rests S T i k = true
    · rw [if_pos h, if_pos h, cnt_or (rsK_lt S T i k) (by omega), ih]
    · rw [if_neg h, if_neg h, Nat.or_zero, ih]; rfl
theorem jt_out3 {u : Int32} (h0 : ¬ u = nI 0) (h1 : ¬ u = nI 1) (h2 : ¬ u = nI 2) : u.toInt < 0 ∨ 2 < u.toInt := by
  refine Classical.byContradiction fun h => ?_
  obtain ⟨j, hj, rfl⟩ := jt_nat (m := 2) (by decide) h
  rcases (by omega : j = 0 ∨ j = 1 ∨ j = 2) with rfl | rfl | rfl
  · exact h0 rfl
  · exact h1 rfl
  · exact h2 rfl
def whO (S : Nat → Nat) (T : t_T2) (i : Nat) (w : Int32) : Int32 := if w = nI 0 then nI (tb T i) else if w = nI 1 then nI (tp T i) else if w = nI 2 then nI (tg T i) else nI (cntN (rsN S T i) 64)
theorem stp_bad {S : Nat → Nat} {i w : Int32} (h : ¬ fst2 (nob (v_in i (nI 0) (nI (tn (gA S)) - nI 1))) (bad_ (v_in w (nI 0) (nI 3))) = 0) : fst2 (nob (v_in i (nI 0) (nI (tn (gA S)) - nI 1))) (bad_ (v_in w (nI 0) (nI 3))) = m_step S i w := by
  unfold m_step
  by_cases h1 : v_in i (nI 0) (nI (tn (gA S)) - nI 1) = true
  · have h2 : ¬ v_in w (nI 0) (nI 3) = true := fun h2 => cod2X h h1 h2
    rw [cod2 (X := 0) h, if_pos h1, if_neg h2, if_pos h1, if_neg (fun z => h2 (by rw [z]; decide)), if_neg (fun z => h2 (by rw [z]; decide)), if_neg (fun z => h2 (by rw [z]; decide)), if_neg (fun z => h2 (by rw [z]; decide))]
  · rw [cod2 (X := 0) h, if_neg h1, if_neg h1]
theorem stp_ok {S : Nat → Nat} {i w : Int32} (h1 : v_in i (nI 0) (nI (tn (gA S)) - nI 1) = true) (h2 : v_in w (nI 0) (nI 3) = true) (h36 : i.toNatClampNeg ≤ 36) : whO S (gA S) i.toNatClampNeg w = m_step S i w := by
  unfold m_step whO rsN
  rw [if_pos h1, cnt_rs _ _ _ _ (by omega)]
  by_cases w0 : w = nI 0
  · rw [if_pos w0, if_pos w0]
  · by_cases w1 : w = nI 1
    · rw [if_neg w0, if_pos w1, if_neg w0, if_pos w1]
    · by_cases w2 : w = nI 2
      · rw [if_neg w0, if_neg w1, if_pos w2, if_neg w0, if_neg w1, if_pos w2]
      · rw [if_neg w0, if_neg w1, if_neg w2, if_neg w0, if_neg w1, if_neg w2, if_pos (in3 h2 w0 w1 w2)]
theorem vst_e {S : Nat → Nat} {p v : Int32} (h : v_isPack S p = true) : (if v = nI 5 then true else v_in v (nI 0) (nI (v_of S p.toNatClampNeg 0) - nI 1)) = v_isState S p v := by
  unfold v_isState v_isVersion
  rw [if_pos h, ite_b]
/-- nothing is left of packages that are not there -/
def wfZ (S : Nat → Nat) (T : t_T2) : Prop := ∀ q, S 0 ≤ q → tl T q = 0
theorem wfZ.lv {S : Nat → Nat} {T : t_T2} (h : wfZ S T) (who p : Nat) (x : Int32) : wfZ S (lvT who p x T) := by
  unfold lvT
  split
  · exact h
  · rename_i hg
    split
    · intro q hq
      show up2 (tl T) p _ q = 0
      unfold up2
      split
      · rename_i e
        exfalso
        rw [← e, h q hq, Nat.zero_and] at hg
        exact hg rfl
      · exact h q hq
    · exact h
theorem wfZ.app {S : Nat → Nat} {T : t_T2} (h : wfZ S T) (r : Nat) : wfZ S (appT S r T) := by
  have hA : ∀ d p, wfZ S (aplF S r T d p) := by
    intro d
    induction d with
    | zero => intro p; exact h
    | succ d ih => intro p; unfold aplF; split; exact h.lv _ _ _; exact ih _
  unfold appT
  split
  · exact h.lv _ _ _
  · split
    · exact hA _ _
    · have h1 : ∀ p o own x, wfZ S (tie1x r p o own x T) := fun p o own x => by unfold tie1x; split; exact h.lv _ _ _; exact h
      unfold tieT
      split
      · exact (h1 _ _ _ _).lv _ _ _
      · exact h1 _ _ _ _
theorem wfZ.fol {S : Nat → Nat} : ∀ (d q r : Nat) (T : t_T2), wfZ S T → wfZ S (folN S d q r T)
  | 0, _, _, _, h => h
  | d + 1, q, r, T, h => by
    unfold folN
    split
    · split
      · exact h
      · exact wfZ.fol d _ _ _ (h.app r)
    · exact h
theorem wfZ.go {S : Nat → Nat} {m : Int32} : ∀ (d a : Nat) (T : t_T2), wfZ S T → wfZ S (goN S m d a T)
  | 0, _, _, h => h
  | d + 1, a, T, h => by
    unfold goN
    split
    · split
      · exact wfZ.go d _ _ (wfZ.fol _ _ _ _ (h.lv _ _ _))
      · exact wfZ.go d _ _ h
    · exact h
theorem wfZ.ga (S : Nat → Nat) : wfZ S (gA S) := wfZ.go _ _ _ (wfZ.fol _ _ _ _ (fun q hq => if_neg (by omega)))
theorem sum_z {S : Nat → Nat} {T : t_T2} (h : wfZ S T) : ∀ d, sumN S T 2 (S 0 + d) = sumN S T 2 (S 0)
  | 0 => rfl
  | d + 1 => by
    show sumN S T 2 (S 0 + d) + (if 2 ≤ 2 then cntN (tl T (S 0 + d)) 64 else v_of S (S 0 + d) 2) = _
    rw [sum_z h d, if_pos (by decide), h (S 0 + d) (by omega)]
    rw [show cntN 0 64 = 0 by decide +kernel, Nat.add_zero]
theorem nobf {b : Bool} (h : ¬ b = true) : nob b = (-1) := by unfold nob; rw [if_neg h]
theorem hasI_t {u k : Int32} (h : hasI u k = true) : (u >>> (k &&& 31)) &&& nI 1 = nI 1 := by
  unfold hasI at h
  split at h
  · assumption
  · cases h
theorem hd_X0_whatOf : jv_dd yX0_whatOf 2 := by unfold jv_dd; decide +kernel
set_option maxHeartbeats 4000000 in
theorem c_X0_whatOf {l : Launch} {G : jv_G} {M : jv_M} {a i : Nat} {S : Nat → Nat} {T : t_T2} (ha : jst M S T i a) (w_ : Int32) (hi : i ≤ 36) (hin : v_in w_ (nI 0) (nI 3) = true) : jv_Ct G l yX0_whatOf cX0_whatOf 2 (some .int) 1 0 0 21 [.ref a, .int w_] M (jv_qi G (jv_pi (whO S T i w_) M)) := by
  refine jv_Ct.of (lv := [(0, .ref a), (1, .int w_)]) (by decide) (Nat.le_of_ble_eq_true rfl) rfl ?_
  intro x Q_ hl_ hQ X
  subst hl_
  refine jv_iload_n X dX0_whatOf_0 1 rfl ?_
  by_cases c1_0 : w_ = nI 0
  · skip
    refine jv_tableIn 28 X dX0_whatOf_1 (by rw [c1_0]; decide) (by rw [c1_0]; decide) (by rw [c1_0]; rfl) (by decide) ?_
    subst c1_0
    refine jv_aload_n X dX0_whatOf_28 0 rfl ?_
    refine jv_getN X dX0_whatOf_29 ha (T := TX11) (N := 4) (C := RX11) rfl in_X11 0 (by decide) q984 rfl rfl ?_
    refine jv_goto 56 X dX0_whatOf_32 (by decide) ?_
    exact jv_iret (v := nI (tb T i)) X dX0_whatOf_56 rfl hQ (Nat.le_of_ble_eq_true rfl) (Nat.le_of_ble_eq_true rfl) ⟨(by unfold whO; rfl), rfl⟩
  · skip
    by_cases c1_1 : w_ = nI 1
    · skip
      refine jv_tableIn 35 X dX0_whatOf_1 (by rw [c1_1]; decide) (by rw [c1_1]; decide) (by rw [c1_1]; rfl) (by decide) ?_
      subst c1_1
      refine jv_aload_n X dX0_whatOf_35 0 rfl ?_
      refine jv_getN X dX0_whatOf_36 ha (T := TX11) (N := 4) (C := RX11) rfl in_X11 1 (by decide) q987 rfl rfl ?_
      refine jv_goto 56 X dX0_whatOf_39 (by decide) ?_
      exact jv_iret (v := nI (tp T i)) X dX0_whatOf_56 rfl hQ (Nat.le_of_ble_eq_true rfl) (Nat.le_of_ble_eq_true rfl) ⟨(by unfold whO; rfl), rfl⟩
    · skip
      by_cases c1_2 : w_ = nI 2
      · skip
        refine jv_tableIn 42 X dX0_whatOf_1 (by rw [c1_2]; decide) (by rw [c1_2]; decide) (by rw [c1_2]; rfl) (by decide) ?_
        subst c1_2
        refine jv_aload_n X dX0_whatOf_42 0 rfl ?_
        refine jv_getN X dX0_whatOf_43 ha (T := TX11) (N := 4) (C := RX11) rfl in_X11 2 (by decide) q990 rfl rfl ?_
        refine jv_goto 56 X dX0_whatOf_46 (by decide) ?_
        exact jv_iret (v := nI (tg T i)) X dX0_whatOf_56 rfl hQ (Nat.le_of_ble_eq_true rfl) (Nat.le_of_ble_eq_true rfl) ⟨(by unfold whO; rfl), rfl⟩
      · skip
        refine jv_tableOut 49 X dX0_whatOf_1 (jt_out3 c1_0 c1_1 c1_2) (by decide) ?_
        refine jv_aload_n X dX0_whatOf_49 0 rfl ?_
        refine jv_getN X dX0_whatOf_50 ha (T := TX11) (N := 4) (C := RX11) rfl in_X11 3 (by decide) q993 rfl rfl ?_
        refine jv_ask (jv_runS (As := [.long (lN (rsN S T i))]) (rest := []) X dX0_whatOf_53 (c_J14_bitCount (rsN S T i) (Nat.lt_of_lt_of_le (rsK_lt S T i i) (Nat.pow_le_pow_right (by decide) hi))) (lw_S q1031 q1032 q118 q1033) hd_J14_bitCount (Nat.le_of_ble_eq_true rfl) (Nat.le_of_ble_eq_true rfl) (Nat.le_of_ble_eq_true rfl) (Nat.le_of_ble_eq_true rfl) rfl (Nat.le_of_ble_eq_true rfl)) ?_
        exact jv_iret (v := nI (cntN (rsN S T i) 64)) X dX0_whatOf_56 rfl hQ (Nat.le_of_ble_eq_true rfl) (Nat.le_of_ble_eq_true rfl) ⟨(by unfold whO; rw [if_neg c1_0, if_neg c1_1, if_neg c1_2]), rfl⟩
theorem hd_X0_step : jv_dd yX0_step 2 := by unfold jv_dd; decide +kernel
set_option maxHeartbeats 4000000 in
theorem c_X0_step {l : Launch} {G : jv_G} {M : jv_M} {σ : jk_A} (hG : jk_G G σ) {τ : Nat → Nat} {xa b pa ip rp : Nat} {sv : Option Nat} {eA_ fA_ : Int32} {S : Nat → Nat} (hx : M xa = some (.inr (0, [.ref b, .ref pa, .ref ip, .ref rp, va_rf sv,   .int eA_, .int fA_]))) (hB : jbd G M τ b S) (hS : wfS S) (hL : wfL S) (hPP : wfP S) (i_ : Int32) (w_ : Int32)  : jv_Ct G l yX0_step cX0_step 5 (some .int) 24 377 3250 786 [.ref xa, .int i_, .int w_] M (jv_qi G (jv_pi (m_step S i_ w_) M)) := by
  refine jv_Ct.of (lv := [(0, .ref xa), (1, .int i_), (2, .int w_)]) (by decide) (Nat.le_of_ble_eq_true rfl) rfl ?_
  intro x Q_ hl_ hQ X
  subst hl_
  have hB_ := hB
  obtain ⟨lp, lr, la, P, R, A, hb, hfb, ⟨⟨mp_, ep, fp, hlp, hep, hn6, hfp, -, -, -⟩, hP⟩, ⟨⟨mr_, er, fr_, hlr, her, hn30, hfr_, -, -, -⟩, hR⟩, ⟨ma_, ea, fa, hla, hea, hn6a, hfa, -, -, -⟩, hA⟩ := hB
  have hW := hS.1
  have hp0 := hW.p
  have hr0 := hW.r
  have ha0 := hW.a
  refine jv_aload_n X dX0_step_0 0 rfl ?_
  refine jv_callr (jv_runV (As := []) (rest := []) X dX0_step_1 (c_X0_traced hG hx hB_ hS hL hPP) (lw_V q848 q850 qs18 q90 q851) hd_X0_traced hx rfl (Nat.le_of_ble_eq_true rfl) (Nat.le_of_ble_eq_true rfl) (by omega) (by omega) rfl (Nat.le_of_ble_eq_true rfl)) (fun t1 M1 hT1 => ?_)
  obtain ⟨ma1, le1, sl1, N1, e1, mc1, gm1, gl1, f1, V1, ⟨ht1, hft1, hnt1⟩, ⟨hma1, hfma1, hnma1, hgm1⟩, ⟨hle1, hfle1, hnle1, hgl1⟩, hml1, ⟨hdl1, hnsl1, hne1⟩, hV1, hag1⟩ := id hT1
  obtain ⟨hsl1, hfsl1, hnN1, hN601, hdl41⟩ := id hdl1
  have hk36_ := (okT.ga hW).1
  refine jv_astore_n (lv' := [(3, .ref t1), (0, .ref xa), (1, .int i_), (2, .int w_)]) X dX0_step_4 rfl (by decide) rfl ?_
  refine jv_iconst (v := nI 2) X dX0_step_5 rfl ?_
  refine jv_newi (N := 2) (k1 := 377) (n1 := 3250) X dX0_step_6 q563 (by decide) rfl (by decide) rfl rfl (Nat.le_of_ble_eq_true rfl) (Nat.le_of_ble_eq_true rfl) (fun q_2 hnq_2 hbq_2 => ?_)
  refine jv_dup X dX0_step_8 rfl ?_
  refine jv_iconst (v := nI 0) X dX0_step_9 rfl ?_
  refine jv_aload_n X dX0_step_10 1 rfl ?_
  refine jv_iload_n X dX0_step_11 2 rfl ?_
  refine jv_iconst (v := nI 0) X dX0_step_12 rfl ?_
  refine jv_aload_n X dX0_step_13 0 rfl ?_
  refine jv_getN X dX0_step_14 ((jv_up_n (new_ne hnq_2 ht1)).trans ht1) (T := TX10) (N := 5) (C := RX10) rfl in_X10 3 (by decide) q902 rfl rfl ?_
  refine jv_ask (jv_runV (As := []) (rest := [.int (nI 0), .int i_, .ref xa, .int (nI 0), .ref q_2, .ref q_2]) X dX0_step_17 (c_J2_size ((jv_up_n (new_ne hnq_2 hsl1)).trans hsl1)) (lw_V q283 q284 q285 q94 q286) hd_J2_size ((jv_up_n (new_ne hnq_2 hsl1)).trans hsl1) rfl (Nat.le_of_ble_eq_true rfl) (Nat.le_of_ble_eq_true rfl) (by omega) (by omega) rfl (Nat.le_of_ble_eq_true rfl)) ?_
  refine jv_iconst (v := nI 1) X dX0_step_20 rfl ?_
  refine jv_isub (w := nI (tn (gA S)) - nI 1) X dX0_step_21 rfl ?_
  refine jv_ask (jv_runS (As := [.int i_, .int (nI 0), .int (nI (tn (gA S)) - nI 1)]) (rest := [.ref xa, .int (nI 0), .ref q_2, .ref q_2]) X dX0_step_22 (c_X0_isIn i_ (nI 0) (nI (tn (gA S)) - nI 1)) (lw_S q516 q517 q90 q518) hd_X0_isIn (Nat.le_of_ble_eq_true rfl) (Nat.le_of_ble_eq_true rfl) (by omega) (by omega) rfl (Nat.le_of_ble_eq_true rfl)) ?_
  refine jv_ask (jv_runV (As := [.int (bI (v_in i_ (nI 0) (nI (tn (gA S)) - nI 1)))]) (rest := [.int (nI 0), .ref q_2, .ref q_2]) X dX0_step_25 (c_X0_nobody (v_in i_ (nI 0) (nI (tn (gA S)) - nI 1))) (lw_V q519 q521 qs8 q90 q522) hd_X0_nobody ((jag.new hag1 hnq_2).c hx) rfl (Nat.le_of_ble_eq_true rfl) (Nat.le_of_ble_eq_true rfl) (by omega) (by omega) rfl (Nat.le_of_ble_eq_true rfl)) ?_
  refine jv_iast (g := upd (fun _ => 0) 0 (nob (v_in i_ (nI 0) (nI (tn (gA S)) - nI 1)))) X dX0_step_28 jv_up_s hbq_2 (jn_in (by decide) (by decide)) (by rw [nI_clamp (by decide)]) ?_
  rw [jv_up_up]
  refine jv_dup X dX0_step_29 rfl ?_
  refine jv_iconst (v := nI 1) X dX0_step_30 rfl ?_
  refine jv_iload_n X dX0_step_31 3 rfl ?_
  refine jv_iconst (v := nI 0) X dX0_step_32 rfl ?_
  refine jv_iconst (v := nI 3) X dX0_step_33 rfl ?_
  refine jv_ask (jv_runS (As := [.int w_, .int (nI 0), .int (nI 3)]) (rest := [.int (nI 1), .ref q_2, .ref q_2]) X dX0_step_34 (c_X0_isIn w_ (nI 0) (nI 3)) (lw_S q516 q517 q90 q518) hd_X0_isIn (Nat.le_of_ble_eq_true rfl) (Nat.le_of_ble_eq_true rfl) (by omega) (by omega) rfl (Nat.le_of_ble_eq_true rfl)) ?_
  refine jv_ask (jv_runS (As := [.int (bI (v_in w_ (nI 0) (nI 3)))]) (rest := [.int (nI 1), .ref q_2, .ref q_2]) X dX0_step_37 (c_X0_bad (v_in w_ (nI 0) (nI 3))) (lw_S q526 q527 q90 q528) hd_X0_bad (Nat.le_of_ble_eq_true rfl) (Nat.le_of_ble_eq_true rfl) (by omega) (by omega) rfl (Nat.le_of_ble_eq_true rfl)) ?_
  refine jv_iast (g := upd (upd (fun _ => 0) 0 (nob (v_in i_ (nI 0) (nI (tn (gA S)) - nI 1)))) 1 (bad_ (v_in w_ (nI 0) (nI 3)))) X dX0_step_40 jv_up_s hbq_2 (jn_in (by decide) (by decide)) (by rw [nI_clamp (by decide)]) ?_
  rw [jv_up_up]
  refine jv_ask (jv_runS (As := [.ref q_2]) (rest := []) X dX0_step_41 (c_X0_first_2 jv_up_s (nob (v_in i_ (nI 0) (nI (tn (gA S)) - nI 1))) (bad_ (v_in w_ (nI 0) (nI 3))) rfl rfl) (lw_S q529 q530 q90 q531) hd_X0_first (Nat.le_of_ble_eq_true rfl) (Nat.le_of_ble_eq_true rfl) (by omega) (by omega) rfl (Nat.le_of_ble_eq_true rfl)) ?_
  refine jv_istore (lv' := [(4, .int (fst2 (nob (v_in i_ (nI 0) (nI (tn (gA S)) - nI 1))) (bad_ (v_in w_ (nI 0) (nI 3))))), (3, .ref t1), (0, .ref xa), (1, .int i_), (2, .int w_)]) X dX0_step_44 (by decide) rfl ?_
  refine jv_iload X dX0_step_46 0 rfl ?_
  refine jv_if_eq 56 X dX0_step_48 (by decide) (fun c48 => ?_) (fun c48 => ?_)
  · skip
    obtain ⟨h1_, h2_⟩ := fst2_0.mp c48
    replace h1_ := nob_0.mp h1_
    replace h2_ := bad_0.mp h2_
    have hin_ := (v_in_up (n := tn (gA S)) (by omega) h1_).1
    refine jv_aload_n X dX0_step_56 1 rfl ?_
    have hq_i_ : nI (i_.toNatClampNeg) = i_ := (v_in_up (n := tn (gA S)) (by omega) h1_).2
    refine jv_to (lv' := [(4, .int (fst2 (nob (v_in i_ (nI 0) (nI (tn (gA S)) - nI 1))) (bad_ (v_in w_ (nI 0) (nI 3))))), (3, .ref t1), (0, .ref xa), (1, .int (nI i_.toNatClampNeg)), (2, .int w_)]) (st' := [.ref t1]) (by rw [hq_i_]) rfl ?_
    have h10_3 := hdl1.ten (show 0 < tn (gA S) by omega)
    obtain ⟨he_3, hfe_3⟩ := hdl1.arr h10_3
    refine jv_getN X dX0_step_57 ((jv_up_n (new_ne hnq_2 ht1)).trans ht1) (T := TX10) (N := 5) (C := RX10) rfl in_X10 3 (by decide) q902 rfl rfl ?_
    refine jv_iload_n X dX0_step_60 3 rfl ?_
    refine jv_callr (jv_runV (As := [.int (nI i_.toNatClampNeg)]) (rest := []) X dX0_step_61 (c_J2_get ((jv_up_n (new_ne hnq_2 hsl1)).trans hsl1) ((jv_up_n (new_ne hnq_2 he_3)).trans he_3) i_.toNatClampNeg (V1 i_.toNatClampNeg) (by omega) (by omega) (by omega) (by rw [(hV1 _ (by omega)).1]; rfl)) (lw_V q532 q533 q534 q94 q535) hd_J2_get ((jv_up_n (new_ne hnq_2 hsl1)).trans hsl1) rfl (Nat.le_of_ble_eq_true rfl) (Nat.le_of_ble_eq_true rfl) (by omega) (by omega) rfl (Nat.le_of_ble_eq_true rfl)) (fun rr_ M_ h_ => ?_)
    obtain ⟨hr_, hm_⟩ := h_
    rw [hr_, hm_]
    clear hr_ hm_
    refine jv_castS X dX0_step_64 ((jv_up_n (new_ne hnq_2 ((hV1 i_.toNatClampNeg (by omega)).2))).trans ((hV1 i_.toNatClampNeg (by omega)).2)) (r := (RX11, TX11, 4)) rfl q1027 ?_
    refine jv_iload_n X dX0_step_67 4 rfl ?_
    refine jv_ask (jv_runS (As := [.ref (V1 i_.toNatClampNeg), .int w_]) (rest := []) X dX0_step_68 (c_X0_whatOf (S := S) (T := gA S) (i := i_.toNatClampNeg) ((jv_up_n (new_ne hnq_2 ((hV1 i_.toNatClampNeg (by omega)).2))).trans ((hV1 i_.toNatClampNeg (by omega)).2)) w_ (by omega) h2_) (lw_S q1028 q1029 q90 q1030) hd_X0_whatOf (Nat.le_of_ble_eq_true rfl) (Nat.le_of_ble_eq_true rfl) (by omega) (by omega) rfl (Nat.le_of_ble_eq_true rfl)) ?_
    refine jv_fewer (jag.few (jag.new hag1 hnq_2)) ?_
    exact jv_iret (v := whO S (gA S) i_.toNatClampNeg w_) X dX0_step_71 rfl hQ (Nat.le_of_ble_eq_true rfl) (Nat.le_of_ble_eq_true rfl) ⟨(stp_ok h1_ h2_ (by omega)), rfl⟩
  · skip
    refine jv_iload X dX0_step_51 0 rfl ?_
    refine jv_goto 71 X dX0_step_53 (by decide) ?_
    refine jv_fewer (jag.few (jag.new hag1 hnq_2)) ?_
    exact jv_iret (v := fst2 (nob (v_in i_ (nI 0) (nI (tn (gA S)) - nI 1))) (bad_ (v_in w_ (nI 0) (nI 3)))) X dX0_step_71 rfl hQ (Nat.le_of_ble_eq_true rfl) (Nat.le_of_ble_eq_true rfl) ⟨(stp_bad c48), rfl⟩
theorem hd_X0_cause : jv_dd yX0_cause 2 := by unfold jv_dd; decide +kernel
set_option maxHeartbeats 4000000 in
theorem c_X0_cause {l : Launch} {G : jv_G} {M : jv_M} {σ : jk_A} (hG : jk_G G σ) {τ : Nat → Nat} {xa b pa ip rp : Nat} {sv : Option Nat} {eA_ fA_ : Int32} {S : Nat → Nat} (hx : M xa = some (.inr (0, [.ref b, .ref pa, .ref ip, .ref rp, va_rf sv,   .int eA_, .int fA_]))) (hB : jbd G M τ b S) (hS : wfS S) (hL : wfL S) (hPP : wfP S) (p_ : Int32) (v_ : Int32)  : jv_Ct G l yX0_cause cX0_cause 7 (some .int) 24 376 3248 786 [.ref xa, .int p_, .int v_] M (jv_qi G (jv_pi (m_cause S p_ v_) M)) := by
  refine jv_Ct.of (lv := [(0, .ref xa), (1, .int p_), (2, .int v_)]) (by decide) (Nat.le_of_ble_eq_true rfl) rfl ?_
  intro x Q_ hl_ hQ X
  subst hl_
  have hB_ := hB
  obtain ⟨lp, lr, la, P, R, A, hb, hfb, ⟨⟨mp_, ep, fp, hlp, hep, hn6, hfp, -, -, -⟩, hP⟩, ⟨⟨mr_, er, fr_, hlr, her, hn30, hfr_, -, -, -⟩, hR⟩, ⟨ma_, ea, fa, hla, hea, hn6a, hfa, -, -, -⟩, hA⟩ := hB
  have hW := hS.1
  have hp0 := hW.p
  have hr0 := hW.r
  have ha0 := hW.a
  refine jv_aload_n X dX0_cause_0 0 rfl ?_
  refine jv_aload_n X dX0_cause_1 0 rfl ?_
  refine jv_iload_n X dX0_cause_2 1 rfl ?_
  refine jv_ask (jv_runV (As := [.int p_]) (rest := [.ref xa]) X dX0_cause_3 (c_X0_isPack hG hx hB_ hS hL hPP p_) (lw_V q512 q514 qs7 q90 q515) hd_X0_isPack hx rfl (Nat.le_of_ble_eq_true rfl) (Nat.le_of_ble_eq_true rfl) (Nat.le_of_ble_eq_true rfl) (Nat.le_of_ble_eq_true rfl) rfl (Nat.le_of_ble_eq_true rfl)) ?_
  refine jv_ask (jv_runV (As := [.int (bI (v_isPack S p_))]) (rest := []) X dX0_cause_6 (c_X0_nobody (v_isPack S p_)) (lw_V q519 q521 qs8 q90 q522) hd_X0_nobody hx rfl (Nat.le_of_ble_eq_true rfl) (Nat.le_of_ble_eq_true rfl) (Nat.le_of_ble_eq_true rfl) (Nat.le_of_ble_eq_true rfl) rfl (Nat.le_of_ble_eq_true rfl)) ?_
  refine jv_istore_n (lv' := [(3, .int (nob (v_isPack S p_))), (0, .ref xa), (1, .int p_), (2, .int v_)]) X dX0_cause_9 rfl (by decide) rfl ?_
  refine jv_iload_n X dX0_cause_10 0 rfl ?_
  refine jv_if_eq 16 X dX0_cause_11 (by decide) (fun c11 => ?_) (fun c11 => ?_)
  · skip
    have h1_ := nob_0.mp c11
    have hpn_ := (v_isPack_n hW h1_).1
    refine jv_aload_n X dX0_cause_16 1 rfl ?_
    have hq_p_ : nI (p_.toNatClampNeg) = p_ := (v_isPack_n hW h1_).2
    refine jv_to (lv' := [(3, .int (nob (v_isPack S p_))), (0, .ref xa), (1, .int (nI p_.toNatClampNeg)), (2, .int v_)]) (st' := [.ref xa]) (by rw [hq_p_]) rfl ?_
    refine jv_get X dX0_cause_17 hx (T := TX0) (N := 7) (C := RX0) rfl in_X0 0 (by decide) q257 rfl rfl ?_
    refine jv_getN X dX0_cause_20 hb (T := TX1) (N := 3) (C := RX1) rfl in_X1 0 (by decide) q183 rfl rfl ?_
    refine jv_iload_n X dX0_cause_23 2 rfl ?_
    refine jv_callr (jv_runV (As := [.int (nI p_.toNatClampNeg)]) (rest := []) X dX0_cause_24 (c_J2_get hlp hep p_.toNatClampNeg (P p_.toNatClampNeg) (by omega) (by omega) (by omega) (by rw [hfp _ (by omega)]; rfl)) (lw_V q532 q533 q534 q94 q535) hd_J2_get hlp rfl (Nat.le_of_ble_eq_true rfl) (Nat.le_of_ble_eq_true rfl) (Nat.le_of_ble_eq_true rfl) (Nat.le_of_ble_eq_true rfl) rfl (Nat.le_of_ble_eq_true rfl)) (fun rr_ M_ h_ => ?_)
    obtain ⟨hr_, hm_⟩ := h_
    rw [hr_, hm_]
    clear hr_ hm_
    obtain ⟨lv_2, V_2, hpk_2, -, ⟨mv_2, ev_2, fv_2, hlv_2, hev_2, hnv_2, hfv_2, -, -, -⟩, hvv_2⟩ := hP p_.toNatClampNeg (by omega)
    have hnv5_2 := hW.nv (show p_.toNatClampNeg < 6 by omega)
    refine jv_castS X dX0_cause_27 hpk_2 (r := (RX3, TX3, 2)) rfl q465 ?_
    refine jv_iload_n X dX0_cause_30 3 rfl ?_
    refine jv_ask (jv_runV (As := [.int v_]) (rest := []) X dX0_cause_31 (c_X3_isState (hP p_.toNatClampNeg (by omega)) hW (by omega) v_) (lw_V q1041 q1042 q1043 q102 q1044) hd_X3_isState hpk_2 rfl (Nat.le_of_ble_eq_true rfl) (Nat.le_of_ble_eq_true rfl) (Nat.le_of_ble_eq_true rfl) (Nat.le_of_ble_eq_true rfl) rfl (Nat.le_of_ble_eq_true rfl)) ?_
    rw [vst_e h1_]
    refine jb_if_ne 40 X dX0_cause_34 (by decide) (fun c34 => ?_) (fun c34 => ?_)
    · skip
      refine jv_aload_n X dX0_cause_40 1 rfl ?_
      refine jv_callr (jv_runV (As := []) (rest := []) X dX0_cause_41 (c_X0_traced hG hx hB_ hS hL hPP) (lw_V q848 q850 qs18 q90 q851) hd_X0_traced hx rfl (Nat.le_of_ble_eq_true rfl) (Nat.le_of_ble_eq_true rfl) (by omega) (by omega) rfl (Nat.le_of_ble_eq_true rfl)) (fun t3 M3 hT3 => ?_)
      obtain ⟨ma3, le3, sl3, N3, e3, mc3, gm3, gl3, f3, V3, ⟨ht3, hft3, hnt3⟩, ⟨hma3, hfma3, hnma3, hgm3⟩, ⟨hle3, hfle3, hnle3, hgl3⟩, hml3, ⟨hdl3, hnsl3, hne3⟩, hV3, hag3⟩ := id hT3
      obtain ⟨hsl3, hfsl3, hnN3, hN603, hdl43⟩ := id hdl3
      have hk36_ := (okT.ga hW).1
      refine jv_astore (lv' := [(4, .ref t3), (3, .int (nob (v_isPack S p_))), (0, .ref xa), (1, .int (nI p_.toNatClampNeg)), (2, .int v_)]) X dX0_cause_44 (by decide) rfl ?_
      refine jv_iconst (v := nI 0) X dX0_cause_46 rfl ?_
      refine jv_istore (lv' := [(5, .int (nI 0)), (4, .ref t3), (3, .int (nob (v_isPack S p_))), (0, .ref xa), (1, .int (nI p_.toNatClampNeg)), (2, .int v_)]) X dX0_cause_47 (by decide) rfl ?_
      have lp49_4 : ∀ (d_49 : Nat) (k : Nat), k ≤ tn (gA S) → cauN (gA S) p_.toNatClampNeg v_ (tn (gA S)) 0 = cauN (gA S) p_.toNatClampNeg v_ (tn (gA S) - k) k → tn (gA S) - k < d_49 → jv_J x G 7 Q_ M3 376 3248 49 [(0, .ref xa), (1, .int (nI p_.toNatClampNeg)), (2, .int v_), (4, .ref t3), (5, .int (nI k))] [] := by
        intro d_49
        induction d_49 with
        | zero => intro k hk hw hm_49; exact absurd hm_49 (Nat.not_lt_zero _)
        | succ d_49 ih_49 =>
          intro k hk hw hm_49
          refine jv_iload X dX0_cause_49 4 rfl ?_
          refine jv_aload X dX0_cause_51 3 rfl ?_
          refine jv_getN X dX0_cause_53 ht3 (T := TX10) (N := 5) (C := RX10) rfl in_X10 3 (by decide) q902 rfl rfl ?_
          refine jv_ask (jv_runV (As := []) (rest := [.int (nI k)]) X dX0_cause_56 (c_J2_size hsl3) (lw_V q283 q284 q285 q94 q286) hd_J2_size hsl3 rfl (Nat.le_of_ble_eq_true rfl) (Nat.le_of_ble_eq_true rfl) (by omega) (by omega) rfl (Nat.le_of_ble_eq_true rfl)) ?_
          refine jn_icmp_ge 107 X dX0_cause_59 (by decide) (by omega) (by omega) (fun c59 => ?_) (fun c59 => ?_)
          · skip
            refine jv_bipush (v := (-5)) X dX0_cause_107 rfl ?_
            refine jv_fewer (jag.few hag3) ?_
            exact jv_iret (v := (-5)) X dX0_cause_109 rfl hQ (Nat.le_of_ble_eq_true rfl) (Nat.le_of_ble_eq_true rfl) ⟨(by unfold m_cause; rw [if_pos h1_, if_pos c34, hw, show tn (gA S) - k = 0 by omega]; rfl), rfl⟩
          · skip
            have h10_5 := hdl3.ten (show 0 < tn (gA S) by omega)
            obtain ⟨he_5, hfe_5⟩ := hdl3.arr h10_5
            refine jv_aload X dX0_cause_62 3 rfl ?_
            refine jv_getN X dX0_cause_64 ht3 (T := TX10) (N := 5) (C := RX10) rfl in_X10 3 (by decide) q902 rfl rfl ?_
            refine jv_iload X dX0_cause_67 4 rfl ?_
            refine jv_callr (jv_runV (As := [.int (nI k)]) (rest := []) X dX0_cause_69 (c_J2_get hsl3 he_5 k (V3 k) (by omega) (by omega) (by omega) (by rw [(hV3 _ (by omega)).1]; rfl)) (lw_V q532 q533 q534 q94 q535) hd_J2_get hsl3 rfl (Nat.le_of_ble_eq_true rfl) (Nat.le_of_ble_eq_true rfl) (by omega) (by omega) rfl (Nat.le_of_ble_eq_true rfl)) (fun rr_ M_ h_ => ?_)
            obtain ⟨hr_, hm_⟩ := h_
            rw [hr_, hm_]
            clear hr_ hm_
            refine jv_castS X dX0_cause_72 (hV3 k (by omega)).2 (r := (RX11, TX11, 4)) rfl q1027 ?_
            refine jv_astore (lv' := [(6, .ref (V3 k)), (0, .ref xa), (1, .int (nI p_.toNatClampNeg)), (2, .int v_), (4, .ref t3), (5, .int (nI k))]) X dX0_cause_75 (by decide) rfl ?_
            refine jv_aload X dX0_cause_77 0 rfl ?_
            refine jv_getN X dX0_cause_79 (hV3 k (by omega)).2 (T := TX11) (N := 4) (C := RX11) rfl in_X11 1 (by decide) q987 rfl rfl ?_
            refine jv_iload_n X dX0_cause_82 2 rfl ?_
            refine jn_icmp_ne 101 X dX0_cause_83 (by decide) (by have := (wfT.ga hS k (by omega)).2.1; omega) (by omega) (fun c83 => ?_) (fun c83 => ?_)
            · skip
              refine jv_iinc (v := nI (k + 1)) (lv' := [(5, .int (nI (k + 1))), (6, .ref (V3 k)), (0, .ref xa), (1, .int (nI p_.toNatClampNeg)), (2, .int v_), (4, .ref t3)]) X dX0_cause_101 5 rfl (nI_1 _) (by decide) rfl ?_
              refine jv_goto 49 X dX0_cause_104 (by decide) ?_
              refine jv_lv (lv' := [(0, .ref xa), (1, .int (nI p_.toNatClampNeg)), (2, .int v_), (4, .ref t3), (5, .int (nI (k + 1)))]) [2, 3, 4, 5, 0] rfl ?_
              exact ih_49 (k + 1) (by omega) (hw.trans (by rw [show tn (gA S) - k = (tn (gA S) - (k + 1)) + 1 by omega]; show (if tp (gA S) k = p_.toNatClampNeg then (if (nI (tg (gA S) k) >>> (v_ &&& 31)) &&& nI 1 = nI 1 then nI k else _) else _) = _; rw [if_neg c83])) (by omega)
            · skip
              refine jv_aload X dX0_cause_86 0 rfl ?_
              refine jv_getN X dX0_cause_88 (hV3 k (by omega)).2 (T := TX11) (N := 4) (C := RX11) rfl in_X11 2 (by decide) q990 rfl rfl ?_
              refine jv_iload_n X dX0_cause_91 3 rfl ?_
              refine jv_ask (jv_runS (As := [.int (nI (tg (gA S) k)), .int v_]) (rest := []) X dX0_cause_92 (c_X0_has (nI (tg (gA S) k)) v_) (lw_S q676 q677 q90 q678) hd_X0_has (Nat.le_of_ble_eq_true rfl) (Nat.le_of_ble_eq_true rfl) (by omega) (by omega) rfl (Nat.le_of_ble_eq_true rfl)) ?_
              refine jb_if_eq 101 X dX0_cause_95 (by decide) (fun c95 => ?_) (fun c95 => ?_)
              · skip
                refine jv_iinc (v := nI (k + 1)) (lv' := [(5, .int (nI (k + 1))), (6, .ref (V3 k)), (0, .ref xa), (1, .int (nI p_.toNatClampNeg)), (2, .int v_), (4, .ref t3)]) X dX0_cause_101 5 rfl (nI_1 _) (by decide) rfl ?_
                refine jv_goto 49 X dX0_cause_104 (by decide) ?_
                refine jv_lv (lv' := [(0, .ref xa), (1, .int (nI p_.toNatClampNeg)), (2, .int v_), (4, .ref t3), (5, .int (nI (k + 1)))]) [2, 3, 4, 5, 0] rfl ?_
                exact ih_49 (k + 1) (by omega) (hw.trans (by rw [show tn (gA S) - k = (tn (gA S) - (k + 1)) + 1 by omega]; show (if tp (gA S) k = p_.toNatClampNeg then (if (nI (tg (gA S) k) >>> (v_ &&& 31)) &&& nI 1 = nI 1 then nI k else _) else _) = _; rw [if_pos c83, if_neg (fun z => by unfold hasI at c95; rw [if_pos z] at c95; cases c95)])) (by omega)
              · skip
                refine jv_iload X dX0_cause_98 5 rfl ?_
                refine jv_fewer (jag.few hag3) ?_
                exact jv_iret (v := nI k) X dX0_cause_100 rfl hQ (Nat.le_of_ble_eq_true rfl) (Nat.le_of_ble_eq_true rfl) ⟨(by unfold m_cause; rw [if_pos h1_, if_pos c34, hw, show tn (gA S) - k = (tn (gA S) - (k + 1)) + 1 by omega]; show _ = (if tp (gA S) k = p_.toNatClampNeg then (if (nI (tg (gA S) k) >>> (v_ &&& 31)) &&& nI 1 = nI 1 then nI k else _) else _); rw [if_pos c83, if_pos (hasI_t c95)]), rfl⟩
      refine jv_lv (lv' := [(0, .ref xa), (1, .int (nI p_.toNatClampNeg)), (2, .int v_), (4, .ref t3), (5, .int (nI 0))]) [3, 4, 5, 1, 0] rfl ?_
      exact lp49_4 (tn (gA S) + 1) 0 (Nat.zero_le _) rfl (by omega)
    · skip
      refine jv_bipush (v := (-2)) X dX0_cause_37 rfl ?_
      exact jv_iret (v := (-2)) X dX0_cause_39 rfl hQ (Nat.le_of_ble_eq_true rfl) (Nat.le_of_ble_eq_true rfl) ⟨(by unfold m_cause; rw [if_pos h1_, if_neg (by rw [c34]; decide)]), rfl⟩
  · skip
    refine jv_iload_n X dX0_cause_14 0 rfl ?_
    exact jv_iret (v := nob (v_isPack S p_)) X dX0_cause_15 rfl hQ (Nat.le_of_ble_eq_true rfl) (Nat.le_of_ble_eq_true rfl) ⟨(by unfold m_cause; rw [if_neg (fun z => c11 (nob_0.mpr z))]; exact nobf (fun z => c11 (nob_0.mpr z))), rfl⟩
theorem cf_t {P : Prop} [Decidable P] (h : (!decide P) = true) : ¬ P := fun p => by rw [decide_eq_true p] at h; cases h
theorem cf_f {P : Prop} [Decidable P] (h : (!decide P) = false) : P := Classical.byContradiction fun p => by rw [decide_eq_false p] at h; cases h
theorem mea_i {S : Nat → Nat} (h : S 0 = 0) : FP.dconst0 = m_mean S := by unfold m_mean; rw [if_pos h]
theorem mea_o {S : Nat → Nat} (h : ¬ S 0 = 0) : FP.ddiv (FP.i2d (nI (sumN S (gA S) 2 (S 0)))) (FP.i2d (nI (S 0))) = m_mean S := by unfold m_mean; rw [if_neg h]
theorem hd_X0_allLeft : jv_dd yX0_allLeft 0 := by unfold jv_dd; decide +kernel
set_option maxHeartbeats 4000000 in
theorem c_X0_allLeft {l : Launch} {G : jv_G} {M : jv_M} {σ : jk_A} (hG : jk_G G σ) {τ : Nat → Nat} {xa b pa ip rp : Nat} {sv : Option Nat} {eA_ fA_ : Int32} {S : Nat → Nat} (hx : M xa = some (.inr (0, [.ref b, .ref pa, .ref ip, .ref rp, va_rf sv,   .int eA_, .int fA_]))) (hB : jbd G M τ b S) (hS : wfS S) (hL : wfL S) (hPP : wfP S)   : jv_Ct G l yX0_allLeft cX0_allLeft 7 (some .int) 24 376 3248 786 [.ref xa] M (jv_qi G (jv_pi (nI (sumN S (gA S) 2 (S 0))) M)) := by
  refine jv_Ct.of (lv := [(0, .ref xa)]) (by decide) (Nat.le_of_ble_eq_true rfl) rfl ?_
  intro x Q_ hl_ hQ X
  subst hl_
  have hB_ := hB
  obtain ⟨lp, lr, la, P, R, A, hb, hfb, ⟨⟨mp_, ep, fp, hlp, hep, hn6, hfp, -, -, -⟩, hP⟩, ⟨⟨mr_, er, fr_, hlr, her, hn30, hfr_, -, -, -⟩, hR⟩, ⟨ma_, ea, fa, hla, hea, hn6a, hfa, -, -, -⟩, hA⟩ := hB
  have hW := hS.1
  have hp0 := hW.p
  have hr0 := hW.r
  have ha0 := hW.a
  refine jv_iconst (v := nI 0) X dX0_allLeft_0 rfl ?_
  refine jv_istore_n (lv' := [(1, .int (nI 0)), (0, .ref xa)]) X dX0_allLeft_1 rfl (by decide) rfl ?_
  refine jv_aload_n X dX0_allLeft_2 1 rfl ?_
  refine jv_callr (jv_runV (As := []) (rest := []) X dX0_allLeft_3 (c_X0_traced hG hx hB_ hS hL hPP) (lw_V q848 q850 qs18 q90 q851) hd_X0_traced hx rfl (Nat.le_of_ble_eq_true rfl) (Nat.le_of_ble_eq_true rfl) (by omega) (by omega) rfl (Nat.le_of_ble_eq_true rfl)) (fun t1 M1 hT1 => ?_)
  obtain ⟨ma1, le1, sl1, N1, e1, mc1, gm1, gl1, f1, V1, ⟨ht1, hft1, hnt1⟩, ⟨hma1, hfma1, hnma1, hgm1⟩, ⟨hle1, hfle1, hnle1, hgl1⟩, hml1, ⟨hdl1, hnsl1, hne1⟩, hV1, hag1⟩ := id hT1
  obtain ⟨hsl1, hfsl1, hnN1, hN601, hdl41⟩ := id hdl1
  have hk36_ := (okT.ga hW).1
  refine jv_astore_n (lv' := [(2, .ref t1), (1, .int (nI 0)), (0, .ref xa)]) X dX0_allLeft_6 rfl (by decide) rfl ?_
  refine jv_aload_n X dX0_allLeft_7 0 rfl ?_
  refine jv_getN X dX0_allLeft_8 ht1 (T := TX10) (N := 5) (C := RX10) rfl in_X10 2 (by decide) q900 rfl rfl ?_
  refine jv_astore_n (lv' := [(3, .ref le1), (2, .ref t1), (1, .int (nI 0)), (0, .ref xa)]) X dX0_allLeft_11 rfl (by decide) rfl ?_
  refine jv_aload_n X dX0_allLeft_12 0 rfl ?_
  refine jv_alen (t0 := 0) (v := nI 6) X dX0_allLeft_13 hle1 rfl rfl ?_
  refine jv_istore (lv' := [(4, .int (nI 6)), (3, .ref le1), (2, .ref t1), (1, .int (nI 0)), (0, .ref xa)]) X dX0_allLeft_14 (by decide) rfl ?_
  refine jv_iconst (v := nI 0) X dX0_allLeft_16 rfl ?_
  refine jv_istore (lv' := [(5, .int (nI 0)), (4, .int (nI 6)), (3, .ref le1), (2, .ref t1), (1, .int (nI 0)), (0, .ref xa)]) X dX0_allLeft_17 (by decide) rfl ?_
  have lp19_2 : ∀ (d_19 : Nat) (i : Nat) (w : Nat), i ≤ 6 → w = sumN S (gA S) 2 i → 6 - i < d_19 → jv_J x G 7 Q_ M1 376 3248 19 [(0, .ref xa), (2, .ref t1), (3, .ref le1), (4, .int (nI 6)), (1, .int (nI w)), (5, .int (nI i))] [] := by
    intro d_19
    induction d_19 with
    | zero => intro i w hi6 hw hm_19; exact absurd hm_19 (Nat.not_lt_zero _)
    | succ d_19 ih_19 =>
      intro i w hi6 hw hm_19
      refine jv_iload X dX0_allLeft_19 5 rfl ?_
      refine jv_iload X dX0_allLeft_21 3 rfl ?_
      refine jn_icmp_ge 46 X dX0_allLeft_23 (by decide) (by omega) (by decide) (fun c23 => ?_) (fun c23 => ?_)
      · skip
        refine jv_iload_n X dX0_allLeft_46 4 rfl ?_
        refine jv_fewer (jag.few hag1) ?_
        exact jv_iret (v := nI w) X dX0_allLeft_47 rfl hQ (Nat.le_of_ble_eq_true rfl) (Nat.le_of_ble_eq_true rfl) ⟨(congrArg nI (by rw [hw, show i = S 0 + (6 - S 0) by omega, sum_z (wfZ.ga S)])), rfl⟩
      · skip
        refine jv_aload_n X dX0_allLeft_26 2 rfl ?_
        refine jv_iload X dX0_allLeft_27 5 rfl ?_
        refine jv_iald (v := nI (tl (gA S) i)) X dX0_allLeft_29 hle1 (jn_in (by omega) (by decide)) (by rw [nI_clamp (by omega)]; exact (hgl1 _ (by omega))) ?_
        refine jv_istore (lv' := [(6, .int (nI (tl (gA S) i))), (0, .ref xa), (2, .ref t1), (3, .ref le1), (4, .int (nI 6)), (1, .int (nI w)), (5, .int (nI i))]) X dX0_allLeft_30 (by decide) rfl ?_
        refine jv_iload_n X dX0_allLeft_32 5 rfl ?_
        refine jv_iload X dX0_allLeft_33 0 rfl ?_
        refine jv_ask (jv_runS (As := [.int (nI (tl (gA S) i))]) (rest := [.int (nI w)]) X dX0_allLeft_35 (c_X0_many (tl (gA S) i) ((okT.ga hW).2.1 i (by omega))) (lw_S q1964 q808 q90 q809) hd_X0_many (Nat.le_of_ble_eq_true rfl) (Nat.le_of_ble_eq_true rfl) (by omega) (by omega) rfl (Nat.le_of_ble_eq_true rfl)) ?_
        refine jv_iadd (w := nI (w + (pcn (tl (gA S) i)))) X dX0_allLeft_38 (nI_add _ _) ?_
        refine jv_istore_n (lv' := [(1, .int (nI (w + (pcn (tl (gA S) i))))), (6, .int (nI (tl (gA S) i))), (0, .ref xa), (2, .ref t1), (3, .ref le1), (4, .int (nI 6)), (5, .int (nI i))]) X dX0_allLeft_39 rfl (by decide) rfl ?_
        refine jv_iinc (v := nI (i + 1)) (lv' := [(5, .int (nI (i + 1))), (1, .int (nI (w + (pcn (tl (gA S) i))))), (6, .int (nI (tl (gA S) i))), (0, .ref xa), (2, .ref t1), (3, .ref le1), (4, .int (nI 6))]) X dX0_allLeft_40 6 rfl (nI_1 _) (by decide) rfl ?_
        refine jv_goto 19 X dX0_allLeft_43 (by decide) ?_
        refine jv_lv (lv' := [(0, .ref xa), (2, .ref t1), (3, .ref le1), (4, .int (nI 6)), (1, .int (nI (w + (pcn (tl (gA S) i))))), (5, .int (nI (i + 1)))]) [3, 4, 5, 6, 1, 0] rfl ?_
        exact ih_19 (i + 1) (w + (pcn (tl (gA S) i))) (by omega) (by rw [hw]; show _ = sumN S (gA S) 2 i + (if 2 ≤ 2 then cntN (tl (gA S) i) 64 else v_of S i 2); rw [if_pos (by decide), cntN_pcn _ ((okT.ga hW).2.1 i (by omega))]) (by omega)
  refine jv_lv (lv' := [(0, .ref xa), (2, .ref t1), (3, .ref le1), (4, .int (nI 6)), (1, .int (nI 0)), (5, .int (nI 0))]) [5, 3, 2, 1, 4, 0] rfl ?_
  exact lp19_2 (6 + 1) 0 0 (Nat.zero_le _) rfl (by omega)
theorem hd_X0_meanStates : jv_dd yX0_meanStates 0 := by unfold jv_dd; decide +kernel
set_option maxHeartbeats 4000000 in
theorem c_X0_meanStates {l : Launch} {G : jv_G} {M : jv_M} {σ : jk_A} (hG : jk_G G σ) {τ : Nat → Nat} {xa b pa ip rp : Nat} {sv : Option Nat} {eA_ fA_ : Int32} {S : Nat → Nat} (hx : M xa = some (.inr (0, [.ref b, .ref pa, .ref ip, .ref rp, va_rf sv,   .int eA_, .int fA_]))) (hB : jbd G M τ b S) (hS : wfS S) (hL : wfL S) (hPP : wfP S)   : jv_Ct G l yX0_meanStates cX0_meanStates 1 (some .double) 25 376 3248 812 [.ref xa] M (jv_qd G (jv_pd (m_mean S) M)) := by
  refine jv_Ct.of (lv := [(0, .ref xa)]) (by decide) (Nat.le_of_ble_eq_true rfl) rfl ?_
  intro x Q_ hl_ hQ X
  subst hl_
  have hB_ := hB
  obtain ⟨lp, lr, la, P, R, A, hb, hfb, ⟨⟨mp_, ep, fp, hlp, hep, hn6, hfp, -, -, -⟩, hP⟩, ⟨⟨mr_, er, fr_, hlr, her, hn30, hfr_, -, -, -⟩, hR⟩, ⟨ma_, ea, fa, hla, hea, hn6a, hfa, -, -, -⟩, hA⟩ := hB
  have hW := hS.1
  have hp0 := hW.p
  have hr0 := hW.r
  have ha0 := hW.a
  refine jv_aload_n X dX0_meanStates_0 0 rfl ?_
  refine jv_get X dX0_meanStates_1 hx (T := TX0) (N := 7) (C := RX0) rfl in_X0 0 (by decide) q257 rfl rfl ?_
  refine jv_getN X dX0_meanStates_4 hb (T := TX1) (N := 3) (C := RX1) rfl in_X1 0 (by decide) q183 rfl rfl ?_
  refine jv_ask (jv_runV (As := []) (rest := []) X dX0_meanStates_7 (c_J2_isEmpty hlp (by omega)) (lw_V q775 q776 q777 q94 q778) hd_J2_isEmpty hlp rfl (Nat.le_of_ble_eq_true rfl) (Nat.le_of_ble_eq_true rfl) (Nat.le_of_ble_eq_true rfl) (Nat.le_of_ble_eq_true rfl) rfl (Nat.le_of_ble_eq_true rfl)) ?_
  refine jb_if_eq 17 X dX0_meanStates_10 (by decide) (fun c10 => ?_) (fun c10 => ?_)
  · skip
    have z_ : ¬ S 0 = 0 := of_decide_eq_false c10
    refine jv_aload_n X dX0_meanStates_17 0 rfl ?_
    refine jv_ask (jv_runV (As := []) (rest := []) X dX0_meanStates_18 (c_X0_allLeft hG hx hB_ hS hL hPP) (lw_V q1960 q1962 qs38 q90 q1963) hd_X0_allLeft hx rfl (Nat.le_of_ble_eq_true rfl) (Nat.le_of_ble_eq_true rfl) (by omega) (by omega) rfl (Nat.le_of_ble_eq_true rfl)) ?_
    refine jv_i2d X dX0_meanStates_21 ?_
    refine jv_aload_n X dX0_meanStates_22 0 rfl ?_
    refine jv_get X dX0_meanStates_23 hx (T := TX0) (N := 7) (C := RX0) rfl in_X0 0 (by decide) q257 rfl rfl ?_
    refine jv_getN X dX0_meanStates_26 hb (T := TX1) (N := 3) (C := RX1) rfl in_X1 0 (by decide) q183 rfl rfl ?_
    refine jv_ask (jv_runV (As := []) (rest := [.double (FP.i2d (nI (sumN S (gA S) 2 (S 0))))]) X dX0_meanStates_29 (c_J2_size hlp) (lw_V q283 q284 q285 q94 q286) hd_J2_size hlp rfl (Nat.le_of_ble_eq_true rfl) (Nat.le_of_ble_eq_true rfl) (by omega) (by omega) rfl (Nat.le_of_ble_eq_true rfl)) ?_
    refine jv_i2d X dX0_meanStates_32 ?_
    refine jv_ddiv X dX0_meanStates_33 (nan_ok _ (by have := sum2 (S := S) (okT.ga hW) (S 0) (by omega); omega) _ (by omega) (by omega)) ?_
    exact jv_dret X dX0_meanStates_34 hQ (Nat.le_of_ble_eq_true rfl) (Nat.le_of_ble_eq_true rfl) ⟨(mea_o z_), rfl⟩
  · skip
    have z_ : S 0 = 0 := of_decide_eq_true c10
    refine jv_dconst0 X dX0_meanStates_13 ?_
    refine jv_goto 34 X dX0_meanStates_14 (by decide) ?_
    exact jv_dret X dX0_meanStates_34 hQ (Nat.le_of_ble_eq_true rfl) (Nat.le_of_ble_eq_true rfl) ⟨(mea_i z_), rfl⟩
theorem hd_X0_blames : jv_dd yX0_blames 0 := by unfold jv_dd; decide +kernel
set_option maxHeartbeats 4000000 in
theorem c_X0_blames {l : Launch} {G : jv_G} {M : jv_M} {σ : jk_A} (hG : jk_G G σ) {τ : Nat → Nat} {xa b pa ip rp : Nat} {sv : Option Nat} {eA_ fA_ : Int32} {S : Nat → Nat} (hx : M xa = some (.inr (0, [.ref b, .ref pa, .ref ip, .ref rp, va_rf sv,   .int eA_, .int fA_]))) (hB : jbd G M τ b S) (hS : wfS S) (hL : wfL S) (hPP : wfP S)   : jv_Ct G l yX0_blames cX0_blames 4 (some .int) 23 2256 19488 766 [.ref xa] M (jv_qi G (jv_pi (nI (blu S)) M)) := by
  refine jv_Ct.of (lv := [(0, .ref xa)]) (by decide) (Nat.le_of_ble_eq_true rfl) rfl ?_
  intro x Q_ hl_ hQ X
  subst hl_
  have hB_ := hB
  obtain ⟨lp, lr, la, P, R, A, hb, hfb, ⟨⟨mp_, ep, fp, hlp, hep, hn6, hfp, -, -, -⟩, hP⟩, ⟨⟨mr_, er, fr_, hlr, her, hn30, hfr_, -, -, -⟩, hR⟩, ⟨ma_, ea, fa, hla, hea, hn6a, hfa, -, -, -⟩, hA⟩ := hB
  have hW := hS.1
  have hp0 := hW.p
  have hr0 := hW.r
  have ha0 := hW.a
  refine jv_aload_n X dX0_blames_0 0 rfl ?_
  refine jv_ask (jv_runV (As := []) (rest := []) X dX0_blames_1 (c_X0_allAssumptions hG hx hB_ hS hL hPP) (lw_V q916 q918 qs19 q90 q919) hd_X0_allAssumptions hx rfl (Nat.le_of_ble_eq_true rfl) (Nat.le_of_ble_eq_true rfl) (Nat.le_of_ble_eq_true rfl) (Nat.le_of_ble_eq_true rfl) rfl (Nat.le_of_ble_eq_true rfl)) ?_
  refine jv_istore_n (lv' := [(1, .int (nI (2 ^ S 2 - 1))), (0, .ref xa)]) X dX0_blames_4 rfl (by decide) rfl ?_
  refine jv_iconst (v := nI 0) X dX0_blames_5 rfl ?_
  refine jv_istore_n (lv' := [(2, .int (nI 0)), (1, .int (nI (2 ^ S 2 - 1))), (0, .ref xa)]) X dX0_blames_6 rfl (by decide) rfl ?_
  have lp7_1 : ∀ (d_7 : Nat) (a : Nat) (n : Nat), a ≤ S 2 → n < 64 → blU S (S 2 - a) a n = blu S → S 2 - a < d_7 → jv_J x G 4 Q_ M (376 * a) (3248 * a) 7 [(0, .ref xa), (1, .int (nI n)), (2, .int (nI a))] [] := by
    intro d_7
    induction d_7 with
    | zero => intro a n ha_ hn_ hb_ hm_7; exact absurd hm_7 (Nat.not_lt_zero _)
    | succ d_7 ih_7 =>
      intro a n ha_ hn_ hb_ hm_7
      refine jv_iload_n X dX0_blames_7 2 rfl ?_
      refine jv_aload_n X dX0_blames_8 0 rfl ?_
      refine jv_get X dX0_blames_9 hx (T := TX0) (N := 7) (C := RX0) rfl in_X0 0 (by decide) q257 rfl rfl ?_
      refine jv_getN X dX0_blames_12 hb (T := TX1) (N := 3) (C := RX1) rfl in_X1 2 (by decide) q193 rfl rfl ?_
      refine jv_ask (jv_runV (As := []) (rest := [.int (nI a)]) X dX0_blames_15 (c_J2_size hla) (lw_V q283 q284 q285 q94 q286) hd_J2_size hla rfl (Nat.le_of_ble_eq_true rfl) (Nat.le_of_ble_eq_true rfl) (by omega) (by omega) rfl (Nat.le_of_ble_eq_true rfl)) ?_
      refine jn_icmp_ge 62 X dX0_blames_18 (by decide) (by omega) (by omega) (fun c18 => ?_) (fun c18 => ?_)
      · skip
        refine jv_iload_n X dX0_blames_62 1 rfl ?_
        exact jv_iret (v := nI n) X dX0_blames_63 rfl hQ (by omega) (by omega) ⟨(congrArg nI (by rw [show S 2 - a = 0 by omega] at hb_; exact hb_)), rfl⟩
      · skip
        refine jv_iload_n X dX0_blames_21 1 rfl ?_
        refine jv_iconst (v := nI 1) X dX0_blames_22 rfl ?_
        refine jv_iload_n X dX0_blames_23 2 rfl ?_
        refine jv_ishl (w := nI (2 ^ a)) X dX0_blames_24 (ni_shl1 (by omega)) ?_
        refine jv_iconst (v := (-1)) X dX0_blames_25 rfl ?_
        refine jv_ixor (w := (nI (2 ^ a)) ^^^ (-1)) X dX0_blames_26 rfl ?_
        refine jv_iand (w := nI (n &&& (63 - 2 ^ a))) X dX0_blames_27 (clr_eq n hn_ a (by omega)) ?_
        refine jv_istore_n (lv' := [(3, .int (nI (n &&& (63 - 2 ^ a)))), (0, .ref xa), (1, .int (nI n)), (2, .int (nI a))]) X dX0_blames_28 rfl (by decide) rfl ?_
        refine jv_new (k1 := 376 * a + 1) (n1 := 3248 * a + 5) X dX0_blames_29 (T := TX10) (N := 5) (C := RX10) (fs := [.null, .null, .null, .null, .int 0]) (ci := 8) rfl in_X10 tyX10 tyX10_ok q852 q853 q115 rfl rfl rfl (by omega) (by omega) (fun q_2 hnq_2 hbq_2 => ?_)
        refine jv_dup X dX0_blames_32 rfl ?_
        refine jv_aload_n X dX0_blames_33 1 rfl ?_
        refine jv_get X dX0_blames_34 ((jag.new jag.rf hnq_2).c hx) (T := TX0) (N := 7) (C := RX0) rfl in_X0 0 (by decide) q257 rfl rfl ?_
        refine jv_callv (jv_runI (As := [.ref b]) (rest := [.ref q_2]) X dX0_blames_37 (c_X10_init hG hB_ hS hL hnq_2 hbq_2) (lw_meth q856) q115 q854 q855 rfl hd_X10_init (Nat.le_of_ble_eq_true rfl) (Nat.le_of_ble_eq_true rfl) (by omega) (by omega) rfl (Nat.le_of_ble_eq_true rfl)) (fun M3 hT3 => ?_)
        obtain ⟨ma3, le3, sl3, N3, e3, mc3, gm3, gl3, f3, V3, ⟨ht3, hft3, hnt3⟩, ⟨hma3, hfma3, hnma3, hgm3⟩, ⟨hle3, hfle3, hnle3, hgl3⟩, hml3, ⟨hdl3, hnsl3, hne3⟩, hV3, hag3⟩ := id hT3
        obtain ⟨hsl3, hfsl3, hnN3, hN603, hdl43⟩ := id hdl3
        refine jv_iload_n X dX0_blames_40 0 rfl ?_
        have h36_ : tn (goC S (nI (n &&& (63 - 2 ^ a))) (S 2) 0 (folT S (t0T S))) ≤ 36 := by have := (okT.got hW (nI (n &&& (63 - 2 ^ a)))).1; rw [← goC_m] at this; exact Nat.le_trans (Nat.le_add_right _ _) this
        refine jv_callr (jv_runV (As := [.int (nI (n &&& (63 - 2 ^ a)))]) (rest := []) X dX0_blames_41 (c_X10_runs hG hB_ hS hL hPP hT3 (okT.t0 hW) wfT.t0 (nI (n &&& (63 - 2 ^ a)))) (lw_V q920 q921 q922 q115 q923) hd_X10_runs ht3 rfl (Nat.le_of_ble_eq_true rfl) (Nat.le_of_ble_eq_true rfl) (by omega) (by omega) rfl (Nat.le_of_ble_eq_true rfl)) (fun rr_ M4 h_ => ?_)
        obtain ⟨hr_, hT4⟩ := h_
        rw [hr_]
        clear hr_
        rw [goC_m] at hT4
        refine jv_widen (k' := 376 * a + 376) (n' := 3248 * a + 3248) (by omega) (by omega) ?_
        obtain ⟨ma4, le4, sl4, N4, e4, mc4, gm4, gl4, f4, V4, ⟨ht4, hft4, hnt4⟩, ⟨hma4, hfma4, hnma4, hgm4⟩, ⟨hle4, hfle4, hnle4, hgl4⟩, hml4, ⟨hdl4, hnsl4, hne4⟩, hV4, hag4⟩ := id hT4
        obtain ⟨hsl4, hfsl4, hnN4, hN604, hdl44⟩ := id hdl4
        refine jv_ask (jv_runV (As := []) (rest := []) X dX0_blames_44 (c_X10_isConflict hG hB_ hS hL hPP hT4 (okT.got hW (nI (n &&& (63 - 2 ^ a)))) (wfT.got hS (nI (n &&& (63 - 2 ^ a))))) (lw_V q1100 q1059 q1060 q115 q1061) hd_X10_isConflict ht4 rfl (Nat.le_of_ble_eq_true rfl) (Nat.le_of_ble_eq_true rfl) (by omega) (by omega) rfl (Nat.le_of_ble_eq_true rfl)) ?_
        refine jb_if_eq 54 X dX0_blames_47 (by decide) (fun c47 => ?_) (fun c47 => ?_)
        · skip
          have g_ := cf_f c47
          refine jv_iload_n X dX0_blames_54 2 rfl ?_
          refine jv_istore_n (lv' := [(1, .int (nI n)), (3, .int (nI (n &&& (63 - 2 ^ a)))), (0, .ref xa), (2, .int (nI a))]) X dX0_blames_55 rfl (by decide) rfl ?_
          refine jv_fewer (jag.few hag4) ?_
          refine jv_iinc (v := nI (a + 1)) (lv' := [(2, .int (nI (a + 1))), (1, .int (nI n)), (3, .int (nI (n &&& (63 - 2 ^ a)))), (0, .ref xa)]) X dX0_blames_56 3 rfl (nI_1 _) (by decide) rfl ?_
          refine jv_goto 7 X dX0_blames_59 (by decide) ?_
          refine jv_lv (lv' := [(0, .ref xa), (1, .int (nI n)), (2, .int (nI (a + 1)))]) [3, 1, 0] rfl ?_
          exact jv_widen (by omega) (by omega) (ih_7 (a + 1) n (by omega) hn_ (by rw [← hb_, show S 2 - a = (S 2 - (a + 1)) + 1 by omega, blU, if_pos g_]) (by omega))
        · skip
          have g_ := cf_t c47
          refine jv_iload_n X dX0_blames_50 0 rfl ?_
          refine jv_goto 55 X dX0_blames_51 (by decide) ?_
          refine jv_istore_n (lv' := [(1, .int (nI (n &&& (63 - 2 ^ a)))), (3, .int (nI (n &&& (63 - 2 ^ a)))), (0, .ref xa), (2, .int (nI a))]) X dX0_blames_55 rfl (by decide) rfl ?_
          refine jv_fewer (jag.few hag4) ?_
          refine jv_iinc (v := nI (a + 1)) (lv' := [(2, .int (nI (a + 1))), (1, .int (nI (n &&& (63 - 2 ^ a)))), (3, .int (nI (n &&& (63 - 2 ^ a)))), (0, .ref xa)]) X dX0_blames_56 3 rfl (nI_1 _) (by decide) rfl ?_
          refine jv_goto 7 X dX0_blames_59 (by decide) ?_
          refine jv_lv (lv' := [(0, .ref xa), (1, .int (nI (n &&& (63 - 2 ^ a)))), (2, .int (nI (a + 1)))]) [3, 1, 0] rfl ?_
          exact jv_widen (by omega) (by omega) (ih_7 (a + 1) (n &&& (63 - 2 ^ a)) (by omega) (Nat.lt_of_le_of_lt Nat.and_le_left hn_) (by rw [← hb_, show S 2 - a = (S 2 - (a + 1)) + 1 by omega, blU, if_neg g_]) (by omega))
  refine jv_lv (lv' := [(0, .ref xa), (1, .int (nI (2 ^ S 2 - 1))), (2, .int (nI 0))]) [2, 1, 0] rfl ?_
  exact jv_widen (Nat.le_refl _) (Nat.le_refl _) (lp7_1 (S 2 + 1) 0 (2 ^ S 2 - 1) (Nat.zero_le _) (by have := pow64 hW.a; omega) rfl (by omega))
theorem hd_X0_blamed : jv_dd yX0_blamed 0 := by unfold jv_dd; decide +kernel
set_option maxHeartbeats 4000000 in
theorem c_X0_blamed {l : Launch} {G : jv_G} {M : jv_M} {σ : jk_A} (hG : jk_G G σ) {τ : Nat → Nat} {xa b pa ip rp : Nat} {sv : Option Nat} {eA_ fA_ : Int32} {S : Nat → Nat} (hx : M xa = some (.inr (0, [.ref b, .ref pa, .ref ip, .ref rp, va_rf sv,   .int eA_, .int fA_]))) (hB : jbd G M τ b S) (hS : wfS S) (hL : wfL S) (hPP : wfP S)   : jv_Ct G l yX0_blamed cX0_blamed 1 (some .int) 24 2632 22736 789 [.ref xa] M (jv_qi G (jv_pi (m_blamed S) M)) := by
  refine jv_Ct.of (lv := [(0, .ref xa)]) (by decide) (Nat.le_of_ble_eq_true rfl) rfl ?_
  intro x Q_ hl_ hQ X
  subst hl_
  have hB_ := hB
  obtain ⟨lp, lr, la, P, R, A, hb, hfb, ⟨⟨mp_, ep, fp, hlp, hep, hn6, hfp, -, -, -⟩, hP⟩, ⟨⟨mr_, er, fr_, hlr, her, hn30, hfr_, -, -, -⟩, hR⟩, ⟨ma_, ea, fa, hla, hea, hn6a, hfa, -, -, -⟩, hA⟩ := hB
  have hW := hS.1
  have hp0 := hW.p
  have hr0 := hW.r
  have ha0 := hW.a
  refine jv_aload_n X dX0_blamed_0 0 rfl ?_
  refine jv_callr (jv_runV (As := []) (rest := []) X dX0_blamed_1 (c_X0_traced hG hx hB_ hS hL hPP) (lw_V q848 q850 qs18 q90 q851) hd_X0_traced hx rfl (Nat.le_of_ble_eq_true rfl) (Nat.le_of_ble_eq_true rfl) (by omega) (by omega) rfl (Nat.le_of_ble_eq_true rfl)) (fun t1 M1 hT1 => ?_)
  obtain ⟨ma1, le1, sl1, N1, e1, mc1, gm1, gl1, f1, V1, ⟨ht1, hft1, hnt1⟩, ⟨hma1, hfma1, hnma1, hgm1⟩, ⟨hle1, hfle1, hnle1, hgl1⟩, hml1, ⟨hdl1, hnsl1, hne1⟩, hV1, hag1⟩ := id hT1
  obtain ⟨hsl1, hfsl1, hnN1, hN601, hdl41⟩ := id hdl1
  have hk36_ := (okT.ga hW).1
  refine jv_ask (jv_runV (As := []) (rest := []) X dX0_blamed_4 (c_X10_isConflict hG hB_ hS hL hPP hT1 (okT.ga hW) (wfT.ga hS)) (lw_V q1100 q1059 q1060 q115 q1061) hd_X10_isConflict ht1 rfl (Nat.le_of_ble_eq_true rfl) (Nat.le_of_ble_eq_true rfl) (by omega) (by omega) rfl (Nat.le_of_ble_eq_true rfl)) ?_
  refine jb_if_eq 17 X dX0_blamed_7 (by decide) (fun c7 => ?_) (fun c7 => ?_)
  · skip
    have g_ := cf_f c7
    refine jv_bipush (v := (-3)) X dX0_blamed_17 rfl ?_
    refine jv_fewer (jag.few hag1) ?_
    exact jv_iret (v := (-3)) X dX0_blamed_19 rfl hQ (Nat.le_of_ble_eq_true rfl) (Nat.le_of_ble_eq_true rfl) ⟨(by unfold m_blamed; rw [if_pos g_]), rfl⟩
  · skip
    have g_ := cf_t c7
    refine jv_fewer (jag.few hag1) ?_
    refine jv_aload_n X dX0_blamed_10 0 rfl ?_
    refine jv_ask (jv_runV (As := []) (rest := []) X dX0_blamed_11 (c_X0_blames hG hx hB_ hS hL hPP) (lw_V q1141 q1143 qs25 q90 q1144) hd_X0_blames hx rfl (Nat.le_of_ble_eq_true rfl) (Nat.le_of_ble_eq_true rfl) (by omega) (by omega) rfl (Nat.le_of_ble_eq_true rfl)) ?_
    refine jv_goto 19 X dX0_blamed_14 (by decide) ?_
    exact jv_iret (v := nI (blu S)) X dX0_blamed_19 rfl hQ (Nat.le_of_ble_eq_true rfl) (Nat.le_of_ble_eq_true rfl) ⟨(by unfold m_blamed; rw [if_neg g_, blm_u hW]), rfl⟩
