/-! the component, twelfth: traces that are asked -/
set_option maxRecDepth 100000
theorem goC_cong {S : Nat → Nat} {m m' : Int32} : ∀ (d a : Nat) (T : t_T2), (∀ j, a ≤ j → j < a + d → hasI m (nI j) = hasI m' (nI j)) → goC S m d a T = goC S m' d a T
  | 0, _, _, _ => rfl
  | d + 1, a, T, h => by
    unfold goC
    rw [h a (Nat.le_refl _) (by omega)]
    exact goC_cong d (a + 1) _ (fun j h1 h2 => h j (by omega) (by omega))
theorem has_all : ∀ s, s < 7 → ∀ j, j < s → hasI (nI (2 ^ s - 1)) (nI j) = hasI (nI 63) (nI j) := by decide +kernel
theorem goC_gA {S : Nat → Nat} (hW : wfB S) : goC S (nI (2 ^ S 2 - 1)) (S 2) 0 (folT S (t0T S)) = gA S := by
  unfold gA goT
  rw [← goC_N]
  exact goC_cong _ _ _ (fun j _ h => has_all (S 2) (by have := hW.a; omega) j (by omega))
theorem wfT.t0 {S : Nat → Nat} : wfT S (t0T S) := fun k hk => absurd hk (Nat.not_lt_zero _)
theorem goC_m {S : Nat → Nat} {m : Int32} : goC S m (S 2) 0 (folT S (t0T S)) = goT S m := goC_N _ _ _
theorem cfI_m {c : Nat} (h : c ≤ 6) : cfI c = (if (cI c) = (-1) then (-5) else (cI c)) := by
  rcases (by omega : c = 0 ∨ c = 1 ∨ c = 2 ∨ c = 3 ∨ c = 4 ∨ c = 5 ∨ c = 6) with rfl | rfl | rfl | rfl | rfl | rfl | rfl <;> decide
theorem hd_X0_traced : jv_dd yX0_traced 0 := by unfold jv_dd; decide +kernel
set_option maxHeartbeats 4000000 in
theorem c_X0_traced {l : Launch} {G : jv_G} {M : jv_M} {σ : jk_A} (hG : jk_G G σ) {τ : Nat → Nat} {xa b pa ip rp : Nat} {sv : Option Nat} {eA_ fA_ : Int32} {S : Nat → Nat} (hx : M xa = some (.inr (0, [.ref b, .ref pa, .ref ip, .ref rp, va_rf sv,   .int eA_, .int fA_]))) (hB : jbd G M τ b S) (hS : wfS S) (hL : wfL S) (hPP : wfP S)   : jv_Ct G l yX0_traced cX0_traced 1 (some (.object "VersionSolver$Trace")) 23 376 3248 766 [.ref xa] M (jv_qr G (fun r M' => jtr G σ M M' S b r (gA S))) := by
  refine jv_Ct.of (lv := [(0, .ref xa)]) (by decide) (Nat.le_of_ble_eq_true rfl) rfl ?_
  intro x Q_ hl_ hQ X
  subst hl_
  have hB_ := hB
  obtain ⟨lp, lr, la, P, R, A, hb, hfb, ⟨⟨mp_, ep, fp, hlp, hep, hn6, hfp, -, -, -⟩, hP⟩, ⟨⟨mr_, er, fr_, hlr, her, hn30, hfr_, -, -, -⟩, hR⟩, ⟨ma_, ea, fa, hla, hea, hn6a, hfa, -, -, -⟩, hA⟩ := hB
  have hW := hS.1
  have hp0 := hW.p
  have hr0 := hW.r
  have ha0 := hW.a
  refine jv_new (k1 := 1) (n1 := 5) X dX0_traced_0 (T := TX10) (N := 5) (C := RX10) (fs := [.null, .null, .null, .null, .int 0]) (ci := 8) rfl in_X10 tyX10 tyX10_ok q852 q853 q115 rfl rfl rfl (Nat.le_of_ble_eq_true rfl) (Nat.le_of_ble_eq_true rfl) (fun q_1 hnq_1 hbq_1 => ?_)
  refine jv_dup X dX0_traced_3 rfl ?_
  refine jv_aload_n X dX0_traced_4 0 rfl ?_
  refine jv_get X dX0_traced_5 ((jag.new jag.rf hnq_1).c hx) (T := TX0) (N := 7) (C := RX0) rfl in_X0 0 (by decide) q257 rfl rfl ?_
  refine jv_callv (jv_runI (As := [.ref b]) (rest := [.ref q_1]) X dX0_traced_8 (c_X10_init hG hB_ hS hL hnq_1 hbq_1) (lw_meth q856) q115 q854 q855 rfl hd_X10_init (Nat.le_of_ble_eq_true rfl) (Nat.le_of_ble_eq_true rfl) (by omega) (by omega) rfl (Nat.le_of_ble_eq_true rfl)) (fun M2 hT2 => ?_)
  obtain ⟨ma2, le2, sl2, N2, e2, mc2, gm2, gl2, f2, V2, ⟨ht2, hft2, hnt2⟩, ⟨hma2, hfma2, hnma2, hgm2⟩, ⟨hle2, hfle2, hnle2, hgl2⟩, hml2, ⟨hdl2, hnsl2, hne2⟩, hV2, hag2⟩ := id hT2
  obtain ⟨hsl2, hfsl2, hnN2, hN602, hdl42⟩ := id hdl2
  refine jv_aload_n X dX0_traced_11 0 rfl ?_
  refine jv_ask (jv_runV (As := []) (rest := [.ref q_1]) X dX0_traced_12 (c_X0_allAssumptions hG (hag2.c hx) (hB_.sub hag2 hp0) hS hL hPP) (lw_V q916 q918 qs19 q90 q919) hd_X0_allAssumptions (hag2.c hx) rfl (Nat.le_of_ble_eq_true rfl) (Nat.le_of_ble_eq_true rfl) (by omega) (by omega) rfl (Nat.le_of_ble_eq_true rfl)) ?_
  have h36_ : tn (goC S (nI (2 ^ S 2 - 1)) (S 2) 0 (folT S (t0T S))) ≤ 36 := by have := (okT.got hW (nI (2 ^ S 2 - 1))).1; rw [← goC_m] at this; exact Nat.le_trans (Nat.le_add_right _ _) this
  refine jv_callr (jv_runV (As := [.int (nI (2 ^ S 2 - 1))]) (rest := []) X dX0_traced_15 (c_X10_runs hG hB_ hS hL hPP hT2 (okT.t0 hW) wfT.t0 (nI (2 ^ S 2 - 1))) (lw_V q920 q921 q922 q115 q923) hd_X10_runs ht2 rfl (Nat.le_of_ble_eq_true rfl) (Nat.le_of_ble_eq_true rfl) (by omega) (by omega) rfl (Nat.le_of_ble_eq_true rfl)) (fun rr_ M3 h_ => ?_)
  obtain ⟨hr_, hT3⟩ := h_
  rw [hr_]
  clear hr_
  rw [goC_gA hW] at hT3
  refine jv_widen (k' := 376) (n' := 3248) (by omega) (by omega) ?_
  obtain ⟨ma3, le3, sl3, N3, e3, mc3, gm3, gl3, f3, V3, ⟨ht3, hft3, hnt3⟩, ⟨hma3, hfma3, hnma3, hgm3⟩, ⟨hle3, hfle3, hnle3, hgl3⟩, hml3, ⟨hdl3, hnsl3, hne3⟩, hV3, hag3⟩ := id hT3
  obtain ⟨hsl3, hfsl3, hnN3, hN603, hdl43⟩ := id hdl3
  exact jv_aret X dX0_traced_18 (by first | exact Or.inl ⟨_, rfl⟩ | exact Or.inr ⟨_, rfl⟩) hQ (Nat.le_of_ble_eq_true rfl) (Nat.le_of_ble_eq_true rfl) hT3
theorem hd_X0_states : jv_dd yX0_states 1 := by unfold jv_dd; decide +kernel
set_option maxHeartbeats 4000000 in
theorem c_X0_states {l : Launch} {G : jv_G} {M : jv_M} {σ : jk_A} (hG : jk_G G σ) {τ : Nat → Nat} {xa b pa ip rp : Nat} {sv : Option Nat} {eA_ fA_ : Int32} {S : Nat → Nat} (hx : M xa = some (.inr (0, [.ref b, .ref pa, .ref ip, .ref rp, va_rf sv,   .int eA_, .int fA_]))) (hB : jbd G M τ b S) (hS : wfS S) (hL : wfL S) (hPP : wfP S) (p_ : Int32)  : jv_Ct G l yX0_states cX0_states 2 (some .int) 24 376 3248 786 [.ref xa, .int p_] M (jv_qi G (jv_pi (m_states S p_) M)) := by
  refine jv_Ct.of (lv := [(0, .ref xa), (1, .int p_)]) (by decide) (Nat.le_of_ble_eq_true rfl) rfl ?_
  intro x Q_ hl_ hQ X
  subst hl_
  have hB_ := hB
  obtain ⟨lp, lr, la, P, R, A, hb, hfb, ⟨⟨mp_, ep, fp, hlp, hep, hn6, hfp, -, -, -⟩, hP⟩, ⟨⟨mr_, er, fr_, hlr, her, hn30, hfr_, -, -, -⟩, hR⟩, ⟨ma_, ea, fa, hla, hea, hn6a, hfa, -, -, -⟩, hA⟩ := hB
  have hW := hS.1
  have hp0 := hW.p
  have hr0 := hW.r
  have ha0 := hW.a
  refine jv_aload_n X dX0_states_0 0 rfl ?_
  refine jv_iload_n X dX0_states_1 1 rfl ?_
  refine jv_ask (jv_runV (As := [.int p_]) (rest := []) X dX0_states_2 (c_X0_isPack hG hx hB_ hS hL hPP p_) (lw_V q512 q514 qs7 q90 q515) hd_X0_isPack hx rfl (Nat.le_of_ble_eq_true rfl) (Nat.le_of_ble_eq_true rfl) (Nat.le_of_ble_eq_true rfl) (Nat.le_of_ble_eq_true rfl) rfl (Nat.le_of_ble_eq_true rfl)) ?_
  refine jb_if_eq 20 X dX0_states_5 (by decide) (fun c5 => ?_) (fun c5 => ?_)
  · skip
    refine jv_iconst (v := (-1)) X dX0_states_20 rfl ?_
    exact jv_iret (v := (-1)) X dX0_states_21 rfl hQ (Nat.le_of_ble_eq_true rfl) (Nat.le_of_ble_eq_true rfl) ⟨(by unfold m_states; rw [if_neg (by rw [c5]; decide)]), rfl⟩
  · skip
    have hq_p_ : nI (p_.toNatClampNeg) = p_ := (v_isPack_n hW c5).2
    refine jv_to (lv' := [(0, .ref xa), (1, .int (nI p_.toNatClampNeg))]) (st' := []) (by rw [hq_p_]) rfl ?_
    have hpn_ := (v_isPack_n hW c5).1
    refine jv_aload_n X dX0_states_8 0 rfl ?_
    refine jv_callr (jv_runV (As := []) (rest := []) X dX0_states_9 (c_X0_traced hG hx hB_ hS hL hPP) (lw_V q848 q850 qs18 q90 q851) hd_X0_traced hx rfl (Nat.le_of_ble_eq_true rfl) (Nat.le_of_ble_eq_true rfl) (by omega) (by omega) rfl (Nat.le_of_ble_eq_true rfl)) (fun t1 M1 hT1 => ?_)
    obtain ⟨ma1, le1, sl1, N1, e1, mc1, gm1, gl1, f1, V1, ⟨ht1, hft1, hnt1⟩, ⟨hma1, hfma1, hnma1, hgm1⟩, ⟨hle1, hfle1, hnle1, hgl1⟩, hml1, ⟨hdl1, hnsl1, hne1⟩, hV1, hag1⟩ := id hT1
    obtain ⟨hsl1, hfsl1, hnN1, hN601, hdl41⟩ := id hdl1
    have hk36_ := (okT.ga hW).1
    refine jv_getN X dX0_states_12 ht1 (T := TX10) (N := 5) (C := RX10) rfl in_X10 2 (by decide) q900 rfl rfl ?_
    refine jv_iload_n X dX0_states_15 1 rfl ?_
    refine jv_iald (v := nI (tl (gA S) p_.toNatClampNeg)) X dX0_states_16 hle1 (jn_in (by omega) (by decide)) (by rw [nI_clamp (by omega)]; exact (hgl1 _ (by omega))) ?_
    refine jv_goto 21 X dX0_states_17 (by decide) ?_
    refine jv_fewer (jag.few hag1) ?_
    exact jv_iret (v := nI (tl (gA S) p_.toNatClampNeg)) X dX0_states_21 rfl hQ (Nat.le_of_ble_eq_true rfl) (Nat.le_of_ble_eq_true rfl) ⟨(by unfold m_states; rw [if_pos c5]), rfl⟩
theorem hd_X0_steps : jv_dd yX0_steps 0 := by unfold jv_dd; decide +kernel
set_option maxHeartbeats 4000000 in
theorem c_X0_steps {l : Launch} {G : jv_G} {M : jv_M} {σ : jk_A} (hG : jk_G G σ) {τ : Nat → Nat} {xa b pa ip rp : Nat} {sv : Option Nat} {eA_ fA_ : Int32} {S : Nat → Nat} (hx : M xa = some (.inr (0, [.ref b, .ref pa, .ref ip, .ref rp, va_rf sv,   .int eA_, .int fA_]))) (hB : jbd G M τ b S) (hS : wfS S) (hL : wfL S) (hPP : wfP S)   : jv_Ct G l yX0_steps cX0_steps 1 (some .int) 24 376 3248 786 [.ref xa] M (jv_qi G (jv_pi (nI (m_steps S)) M)) := by
  refine jv_Ct.of (lv := [(0, .ref xa)]) (by decide) (Nat.le_of_ble_eq_true rfl) rfl ?_
  intro x Q_ hl_ hQ X
  subst hl_
  have hB_ := hB
  obtain ⟨lp, lr, la, P, R, A, hb, hfb, ⟨⟨mp_, ep, fp, hlp, hep, hn6, hfp, -, -, -⟩, hP⟩, ⟨⟨mr_, er, fr_, hlr, her, hn30, hfr_, -, -, -⟩, hR⟩, ⟨ma_, ea, fa, hla, hea, hn6a, hfa, -, -, -⟩, hA⟩ := hB
  have hW := hS.1
  have hp0 := hW.p
  have hr0 := hW.r
  have ha0 := hW.a
  refine jv_aload_n X dX0_steps_0 0 rfl ?_
  refine jv_callr (jv_runV (As := []) (rest := []) X dX0_steps_1 (c_X0_traced hG hx hB_ hS hL hPP) (lw_V q848 q850 qs18 q90 q851) hd_X0_traced hx rfl (Nat.le_of_ble_eq_true rfl) (Nat.le_of_ble_eq_true rfl) (by omega) (by omega) rfl (Nat.le_of_ble_eq_true rfl)) (fun t1 M1 hT1 => ?_)
  obtain ⟨ma1, le1, sl1, N1, e1, mc1, gm1, gl1, f1, V1, ⟨ht1, hft1, hnt1⟩, ⟨hma1, hfma1, hnma1, hgm1⟩, ⟨hle1, hfle1, hnle1, hgl1⟩, hml1, ⟨hdl1, hnsl1, hne1⟩, hV1, hag1⟩ := id hT1
  obtain ⟨hsl1, hfsl1, hnN1, hN601, hdl41⟩ := id hdl1
  have hk36_ := (okT.ga hW).1
  refine jv_getN X dX0_steps_4 ht1 (T := TX10) (N := 5) (C := RX10) rfl in_X10 3 (by decide) q902 rfl rfl ?_
  refine jv_ask (jv_runV (As := []) (rest := []) X dX0_steps_7 (c_J2_size hsl1) (lw_V q283 q284 q285 q94 q286) hd_J2_size hsl1 rfl (Nat.le_of_ble_eq_true rfl) (Nat.le_of_ble_eq_true rfl) (by omega) (by omega) rfl (Nat.le_of_ble_eq_true rfl)) ?_
  refine jv_fewer (jag.few hag1) ?_
  exact jv_iret (v := nI (tn (gA S))) X dX0_steps_10 rfl hQ (Nat.le_of_ble_eq_true rfl) (Nat.le_of_ble_eq_true rfl) ⟨rfl, rfl⟩
theorem hd_X0_conflict : jv_dd yX0_conflict 0 := by unfold jv_dd; decide +kernel
set_option maxHeartbeats 4000000 in
theorem c_X0_conflict {l : Launch} {G : jv_G} {M : jv_M} {σ : jk_A} (hG : jk_G G σ) {τ : Nat → Nat} {xa b pa ip rp : Nat} {sv : Option Nat} {eA_ fA_ : Int32} {S : Nat → Nat} (hx : M xa = some (.inr (0, [.ref b, .ref pa, .ref ip, .ref rp, va_rf sv,   .int eA_, .int fA_]))) (hB : jbd G M τ b S) (hS : wfS S) (hL : wfL S) (hPP : wfP S)   : jv_Ct G l yX0_conflict cX0_conflict 1 (some .int) 24 376 3248 786 [.ref xa] M (jv_qi G (jv_pi (m_conflict S) M)) := by
  refine jv_Ct.of (lv := [(0, .ref xa)]) (by decide) (Nat.le_of_ble_eq_true rfl) rfl ?_
  intro x Q_ hl_ hQ X
  subst hl_
  have hB_ := hB
  obtain ⟨lp, lr, la, P, R, A, hb, hfb, ⟨⟨mp_, ep, fp, hlp, hep, hn6, hfp, -, -, -⟩, hP⟩, ⟨⟨mr_, er, fr_, hlr, her, hn30, hfr_, -, -, -⟩, hR⟩, ⟨ma_, ea, fa, hla, hea, hn6a, hfa, -, -, -⟩, hA⟩ := hB
  have hW := hS.1
  have hp0 := hW.p
  have hr0 := hW.r
  have ha0 := hW.a
  refine jv_aload_n X dX0_conflict_0 0 rfl ?_
  refine jv_callr (jv_runV (As := []) (rest := []) X dX0_conflict_1 (c_X0_traced hG hx hB_ hS hL hPP) (lw_V q848 q850 qs18 q90 q851) hd_X0_traced hx rfl (Nat.le_of_ble_eq_true rfl) (Nat.le_of_ble_eq_true rfl) (by omega) (by omega) rfl (Nat.le_of_ble_eq_true rfl)) (fun t1 M1 hT1 => ?_)
  obtain ⟨ma1, le1, sl1, N1, e1, mc1, gm1, gl1, f1, V1, ⟨ht1, hft1, hnt1⟩, ⟨hma1, hfma1, hnma1, hgm1⟩, ⟨hle1, hfle1, hnle1, hgl1⟩, hml1, ⟨hdl1, hnsl1, hne1⟩, hV1, hag1⟩ := id hT1
  obtain ⟨hsl1, hfsl1, hnN1, hN601, hdl41⟩ := id hdl1
  have hk36_ := (okT.ga hW).1
  refine jv_getN X dX0_conflict_4 ht1 (T := TX10) (N := 5) (C := RX10) rfl in_X10 4 (by decide) q904 rfl rfl ?_
  refine jv_fewer (jag.few hag1) ?_
  exact jv_iret (v := cfI (tc (gA S))) X dX0_conflict_7 rfl hQ (Nat.le_of_ble_eq_true rfl) (Nat.le_of_ble_eq_true rfl) ⟨(cfI_m (okT.ga hW).2.2), rfl⟩

