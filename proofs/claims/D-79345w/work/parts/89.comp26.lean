/-! the solver: what hinders -/
set_option maxRecDepth 100000
theorem ast_t {S : Nat → Nat} {t : Int32} (h : ast S t = true) : ¬ t < 0 ∧ t.toNatClampNeg / 10 ^ S 0 = 0 ∧ gooN S t.toNatClampNeg (S 0) = true := by
  unfold ast at h
  by_cases h1 : t < 0
  · rw [if_pos h1] at h; cases h
  · rw [if_neg h1] at h
    by_cases h2 : t.toNatClampNeg / 10 ^ S 0 = 0
    · rw [if_pos h2] at h; exact ⟨h1, h2, h⟩
    · rw [if_neg h2] at h; cases h
theorem ast_f {S : Nat → Nat} {t : Int32} (h : ast S t = false) : (-2) = m_hinders S t := by
  unfold ast at h
  unfold m_hinders hinT
  by_cases h1 : t < 0
  · rw [if_pos h1]
  · rw [if_neg h1] at h ⊢
    by_cases h2 : t.toNatClampNeg / 10 ^ S 0 = 0
    · rw [if_pos h2] at h; rw [h, if_neg (by decide)]
    · rw [if_neg h2]; split <;> rfl
theorem hd_X0_hinders : jv_dd yX0_hinders 1 := by unfold jv_dd; decide +kernel
set_option maxHeartbeats 4000000 in
theorem c_X0_hinders {l : Launch} {G : jv_G} {M : jv_M} {σ : jk_A} (hG : jk_G G σ) {τ : Nat → Nat} {xa b pa ip rp : Nat} {sv : Option Nat} {eA_ fA_ : Int32} {S : Nat → Nat} (hx : M xa = some (.inr (0, [.ref b, .ref pa, .ref ip, .ref rp, va_rf sv,   .int eA_, .int fA_]))) (hB : jbd G M τ b S) (hS : wfS S) (hL : wfL S) (hPP : wfP S) (hV : wfV S) (t_ : Int32)  : jv_Ct G l yX0_hinders cX0_hinders 2 (some .int) 12 635 2028 349 [.ref xa, .int t_] M (jv_qi G (jv_pi (m_hinders S t_) M)) := by
  refine jv_Ct.of (lv := [(0, .ref xa), (1, .int t_)]) (by decide) (Nat.le_of_ble_eq_true rfl) rfl ?_
  intro x Q_ hl_ hQ X
  subst hl_
  have hB_ := hB
  obtain ⟨lp, lr, la, P, R, A, hb, hfb, ⟨⟨mp_, ep, fp, hlp, hep, hn6, hfp, -, -, -⟩, hP⟩, ⟨⟨mr_, er, fr_, hlr, her, hn30, hfr_, -, -, -⟩, hR⟩, ⟨ma_, ea, fa, hla, hea, hn6a, hfa, -, -, -⟩, hA⟩ := hB
  have hW := hS.1
  have hp0 := hW.p
  have hr0 := hW.r
  have ha0 := hW.a
  refine jv_aload_n X dX0_hinders_0 0 rfl ?_
  refine jv_iload_n X dX0_hinders_1 1 rfl ?_
  refine jv_ask (jv_runV (As := [.int t_]) (rest := []) X dX0_hinders_2 (c_X0_areStates hG hx hB_ hS hL hPP hV t_) (lw_V q1359 q1361 qs27 q90 q1362) hd_X0_areStates hx rfl (Nat.le_of_ble_eq_true rfl) (Nat.le_of_ble_eq_true rfl) (Nat.le_of_ble_eq_true rfl) (Nat.le_of_ble_eq_true rfl) rfl (Nat.le_of_ble_eq_true rfl)) ?_
  refine jb_if_eq 23 X dX0_hinders_5 (by decide) (fun c5 => ?_) (fun c5 => ?_)
  · skip
    refine jv_bipush (v := (-2)) X dX0_hinders_23 rfl ?_
    exact jv_iret (v := (-2)) X dX0_hinders_25 rfl hQ (Nat.le_of_ble_eq_true rfl) (Nat.le_of_ble_eq_true rfl) ⟨(ast_f c5), rfl⟩
  · skip
    have ha_ := ast_t c5
    refine jv_new (k1 := 1) (n1 := 6) X dX0_hinders_8 (T := TX17) (N := 6) (C := RX17) (fs := [.null, .null, .null, .int 0, .null, .null]) (ci := 14) rfl in_X17 tyX17 tyX17_ok q1365 q1366 q125 rfl rfl rfl (Nat.le_of_ble_eq_true rfl) (Nat.le_of_ble_eq_true rfl) (fun q_1 hnq_1 hbq_1 => ?_)
    have hq_t_ : nI (t_.toNatClampNeg) = t_ := (nI_clN ha_.1)
    refine jv_to (lv' := [(0, .ref xa), (1, .int (nI t_.toNatClampNeg))]) (st' := [.ref q_1]) (by rw [hq_t_]) rfl ?_
    refine jv_dup X dX0_hinders_11 rfl ?_
    refine jv_aload_n X dX0_hinders_12 0 rfl ?_
    refine jv_iload_n X dX0_hinders_13 1 rfl ?_
    refine jv_callv (jv_runI (As := [.ref xa, .int (nI t_.toNatClampNeg)]) (rest := [.ref q_1]) X dX0_hinders_14 (c_X17_init hG hB_ hS hL hPP hV hnq_1 hbq_1 hx t_.toNatClampNeg ha_.2.2 (t_nb _)) (lw_meth q1369) q125 q1367 q1368 rfl hd_X17_init (Nat.le_of_ble_eq_true rfl) (Nat.le_of_ble_eq_true rfl) (by omega) (by omega) rfl (Nat.le_of_ble_eq_true rfl)) (fun M2 h_ => ?_)
    obtain ⟨ma, oa, sa, hse⟩ := h_
    obtain ⟨⟨ht2, hft2, hnt2⟩, ⟨gm2, hma2, hgm2⟩, ⟨go2, hoa2, hgo2⟩, ⟨gs2, hsa2, hgs2, hfsa2, hnsa2⟩, he62, hms2, hos2, hag2⟩ := id hse
    refine jv_ask (jv_runV (As := []) (rest := []) X dX0_hinders_17 (c_X17_hinders hG hB_ hS hL hPP hse hx (all_EV hW)) (lw_V q1383 q1384 q1385 q125 q1386) hd_X17_hinders ht2 rfl (Nat.le_of_ble_eq_true rfl) (Nat.le_of_ble_eq_true rfl) (by omega) (by omega) rfl (Nat.le_of_ble_eq_true rfl)) ?_
    refine jv_goto 25 X dX0_hinders_20 (by decide) ?_
    refine jv_fewer (jag.few hag2) ?_
    exact jv_iret (v := hirN S (tolE S t_.toNatClampNeg) (S 1) 0) X dX0_hinders_25 rfl hQ (Nat.le_of_ble_eq_true rfl) (Nat.le_of_ble_eq_true rfl) ⟨(by unfold m_hinders hinT; rw [if_neg ha_.1, if_pos ha_.2.2, if_pos ha_.2.1]; exact hir_c hS hL (fun q hq => if_pos hq) _ _ (by omega)), rfl⟩
