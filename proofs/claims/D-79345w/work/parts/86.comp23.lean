/-! the solver: searches -/
set_option maxRecDepth 100000
theorem hd_X0_solutions : jv_dd yX0_solutions 0 := by unfold jv_dd; decide +kernel
set_option maxHeartbeats 4000000 in
theorem c_X0_solutions {l : Launch} {G : jv_G} {M : jv_M} {σ : jk_A} (hG : jk_G G σ) {τ : Nat → Nat} {xa b pa ip rp : Nat} {sv : Option Nat} {eA_ fA_ : Int32} {S : Nat → Nat} (hx : M xa = some (.inr (0, [.ref b, .ref pa, .ref ip, .ref rp, va_rf sv,   .int eA_, .int fA_]))) (hB : jbd G M τ b S) (hS : wfS S) (hL : wfL S) (hPP : wfP S) (hV : wfV S)   : jv_Ct G l yX0_solutions cX0_solutions 1 (some .int) 48 334 1098 1449 [.ref xa] M (jv_qi G (jv_pi (nI (m_solutions S)) M)) := by
  refine jv_Ct.of (lv := [(0, .ref xa)]) (by decide) (Nat.le_of_ble_eq_true rfl) rfl ?_
  intro x Q_ hl_ hQ X
  subst hl_
  have hB_ := hB
  obtain ⟨lp, lr, la, P, R, A, hb, hfb, ⟨⟨mp_, ep, fp, hlp, hep, hn6, hfp, -, -, -⟩, hP⟩, ⟨⟨mr_, er, fr_, hlr, her, hn30, hfr_, -, -, -⟩, hR⟩, ⟨ma_, ea, fa, hla, hea, hn6a, hfa, -, -, -⟩, hA⟩ := hB
  have hW := hS.1
  have hp0 := hW.p
  have hr0 := hW.r
  have ha0 := hW.a
  have hal_ := solY_m (all_EV hW)
  refine jv_new (k1 := 1) (n1 := 6) X dX0_solutions_0 (T := TX15) (N := 6) (C := RX15) (fs := [.null, .null, .null, .int 0, .null, .int 0]) (ci := 12) rfl in_X15 tyX15 tyX15_ok q1175 q1176 q123 rfl rfl rfl (Nat.le_of_ble_eq_true rfl) (Nat.le_of_ble_eq_true rfl) (fun q_1 hnq_1 hbq_1 => ?_)
  refine jv_dup X dX0_solutions_3 rfl ?_
  refine jv_aload_n X dX0_solutions_4 0 rfl ?_
  refine jv_get X dX0_solutions_5 ((jag.new jag.rf hnq_1).c hx) (T := TX0) (N := 7) (C := RX0) rfl in_X0 0 (by decide) q257 rfl rfl ?_
  refine jv_aload_n X dX0_solutions_8 0 rfl ?_
  refine jv_ask (jv_runV (As := []) (rest := [.ref b, .ref q_1, .ref q_1]) X dX0_solutions_9 (c_X0_allRules hG ((jag.new jag.rf hnq_1).c hx) (hB_.sub (jag.new jag.rf hnq_1) hp0) hS hL hPP) (lw_V q1177 q1179 qs26 q90 q1180) hd_X0_allRules ((jag.new jag.rf hnq_1).c hx) rfl (Nat.le_of_ble_eq_true rfl) (Nat.le_of_ble_eq_true rfl) (by omega) (by omega) rfl (Nat.le_of_ble_eq_true rfl)) ?_
  refine jv_callv (jv_runI (As := [.ref b, .int (nI (2 ^ S 1 - 1))]) (rest := [.ref q_1]) X dX0_solutions_12 (c_X15_init hG hB_ hS hL hV hnq_1 hbq_1 (nI (2 ^ S 1 - 1))) (lw_meth q1183) q123 q1181 q1182 rfl hd_X15_init (Nat.le_of_ble_eq_true rfl) (Nat.le_of_ble_eq_true rfl) (by omega) (by omega) rfl (Nat.le_of_ble_eq_true rfl)) (fun M2 h_ => ?_)
  obtain ⟨ma, oa, sa, hse⟩ := h_
  obtain ⟨⟨ht2, hft2, hnt2⟩, ⟨gm2, hma2, hgm2⟩, ⟨go2, hoa2, hgo2⟩, ⟨gs2, hsa2, hgs2, hfsa2, hnsa2⟩, he62, hms2, hos2, hag2⟩ := id hse
  refine jv_calli (jv_runV (As := []) (rest := []) X dX0_solutions_15 (c_X15_all hG hB_ hS hL hPP hse) (lw_V q1222 q1223 q1224 q123 q1225) hd_X15_all ht2 rfl (Nat.le_of_ble_eq_true rfl) (Nat.le_of_ble_eq_true rfl) (by omega) (by omega) rfl (Nat.le_of_ble_eq_true rfl)) (fun rr_ M3 h_ => ?_)
  obtain ⟨hr_, hag3⟩ := h_
  rw [hr_]
  clear hr_
  refine jv_fewer (jag.few hag3) ?_
  exact jv_iret (v := nI ((solY S (nI (2 ^ S 1 - 1)) 1000000).1)) X dX0_solutions_18 rfl hQ (Nat.le_of_ble_eq_true rfl) (Nat.le_of_ble_eq_true rfl) ⟨(congrArg (fun z : t_Y => nI z.1) (hal_ 1000000)), rfl⟩
theorem hd_X0_best : jv_dd yX0_best 1 := by unfold jv_dd; decide +kernel
set_option maxHeartbeats 4000000 in
theorem c_X0_best {l : Launch} {G : jv_G} {M : jv_M} {σ : jk_A} (hG : jk_G G σ) {τ : Nat → Nat} {xa b pa ip rp : Nat} {sv : Option Nat} {eA_ fA_ : Int32} {S : Nat → Nat} (hx : M xa = some (.inr (0, [.ref b, .ref pa, .ref ip, .ref rp, va_rf sv,   .int eA_, .int fA_]))) (hB : jbd G M τ b S) (hS : wfS S) (hL : wfL S) (hPP : wfP S) (hV : wfV S) (p_ : Int32)  : jv_Ct G l yX0_best cX0_best 3 (some .int) 48 334 1097 1448 [.ref xa, .int p_] M (jv_qi G (jv_pi (m_best S p_) M)) := by
  refine jv_Ct.of (lv := [(0, .ref xa), (1, .int p_)]) (by decide) (Nat.le_of_ble_eq_true rfl) rfl ?_
  intro x Q_ hl_ hQ X
  subst hl_
  have hB_ := hB
  obtain ⟨lp, lr, la, P, R, A, hb, hfb, ⟨⟨mp_, ep, fp, hlp, hep, hn6, hfp, -, -, -⟩, hP⟩, ⟨⟨mr_, er, fr_, hlr, her, hn30, hfr_, -, -, -⟩, hR⟩, ⟨ma_, ea, fa, hla, hea, hn6a, hfa, -, -, -⟩, hA⟩ := hB
  have hW := hS.1
  have hp0 := hW.p
  have hr0 := hW.r
  have ha0 := hW.a
  refine jv_aload_n X dX0_best_0 0 rfl ?_
  refine jv_iload_n X dX0_best_1 1 rfl ?_
  refine jv_ask (jv_runV (As := [.int p_]) (rest := []) X dX0_best_2 (c_X0_isPack hG hx hB_ hS hL hPP p_) (lw_V q512 q514 qs7 q90 q515) hd_X0_isPack hx rfl (Nat.le_of_ble_eq_true rfl) (Nat.le_of_ble_eq_true rfl) (Nat.le_of_ble_eq_true rfl) (Nat.le_of_ble_eq_true rfl) rfl (Nat.le_of_ble_eq_true rfl)) ?_
  refine jb_if_ne 10 X dX0_best_5 (by decide) (fun c5 => ?_) (fun c5 => ?_)
  · skip
    have hq_p_ : nI (p_.toNatClampNeg) = p_ := (v_isPack_n hW c5).2
    refine jv_to (lv' := [(0, .ref xa), (1, .int (nI p_.toNatClampNeg))]) (st' := []) (by rw [hq_p_]) rfl ?_
    have hal_ := solY_m (all_EV hW)
    have hpn_ := (v_isPack_n hW c5).1
    refine jv_new (k1 := 1) (n1 := 5) X dX0_best_10 (T := TX16) (N := 5) (C := RX16) (fs := [.null, .null, .null, .int 0, .null]) (ci := 13) rfl in_X16 tyX16 tyX16_ok q1332 q1333 q124 rfl rfl rfl (Nat.le_of_ble_eq_true rfl) (Nat.le_of_ble_eq_true rfl) (fun q_1 hnq_1 hbq_1 => ?_)
    refine jv_dup X dX0_best_13 rfl ?_
    refine jv_aload_n X dX0_best_14 0 rfl ?_
    refine jv_get X dX0_best_15 ((jag.new jag.rf hnq_1).c hx) (T := TX0) (N := 7) (C := RX0) rfl in_X0 0 (by decide) q257 rfl rfl ?_
    refine jv_aload_n X dX0_best_18 0 rfl ?_
    refine jv_ask (jv_runV (As := []) (rest := [.ref b, .ref q_1, .ref q_1]) X dX0_best_19 (c_X0_allRules hG ((jag.new jag.rf hnq_1).c hx) (hB_.sub (jag.new jag.rf hnq_1) hp0) hS hL hPP) (lw_V q1177 q1179 qs26 q90 q1180) hd_X0_allRules ((jag.new jag.rf hnq_1).c hx) rfl (Nat.le_of_ble_eq_true rfl) (Nat.le_of_ble_eq_true rfl) (by omega) (by omega) rfl (Nat.le_of_ble_eq_true rfl)) ?_
    refine jv_callv (jv_runI (As := [.ref b, .int (nI (2 ^ S 1 - 1))]) (rest := [.ref q_1]) X dX0_best_22 (c_X16_init hG hB_ hS hL hV hnq_1 hbq_1 (nI (2 ^ S 1 - 1))) (lw_meth q1336) q124 q1334 q1335 rfl hd_X16_init (Nat.le_of_ble_eq_true rfl) (Nat.le_of_ble_eq_true rfl) (by omega) (by omega) rfl (Nat.le_of_ble_eq_true rfl)) (fun M2 h_ => ?_)
    obtain ⟨ma, oa, sa, hse⟩ := h_
    obtain ⟨⟨ht2, hft2, hnt2⟩, ⟨gm2, hma2, hgm2⟩, ⟨go2, hoa2, hgo2⟩, ⟨gs2, hsa2, hgs2, hfsa2, hnsa2⟩, he62, hms2, hos2, hag2⟩ := id hse
    refine jv_astore_n (lv' := [(2, .ref q_1), (0, .ref xa), (1, .int (nI p_.toNatClampNeg))]) X dX0_best_25 rfl (by decide) rfl ?_
    refine jv_aload_n X dX0_best_26 0 rfl ?_
    refine jv_calli (jv_runV (As := []) (rest := []) X dX0_best_27 (c_X16_isThere hG hB_ hS hL hPP hse) (lw_V q1344 q1345 q1346 q124 q1347) hd_X16_isThere ht2 rfl (Nat.le_of_ble_eq_true rfl) (Nat.le_of_ble_eq_true rfl) (by omega) (by omega) rfl (Nat.le_of_ble_eq_true rfl)) (fun rr_ M4_ h_ => ?_)
    obtain ⟨hr_, e4_, hs4_, hd4_⟩ := h_
    rw [hr_]
    clear hr_
    obtain ⟨⟨ht4, hft4, hnt4⟩, ⟨gm4, hma4, hgm4⟩, ⟨go4, hoa4, hgo4⟩, ⟨gs4, hsa4, hgs4, hfsa4, hnsa4⟩, he64, hms4, hos4, hag4⟩ := id hs4_
    refine jb_if_eq 41 X dX0_best_30 (by decide) (fun c30 => ?_) (fun c30 => ?_)
    · skip
      have g_ : (solY S (nI (2 ^ S 1 - 1)) 1).1 < 1 := cf_f c30
      refine jv_bipush (v := (-3)) X dX0_best_41 rfl ?_
      refine jv_fewer (jag.few hag4) ?_
      exact jv_iret (v := (-3)) X dX0_best_43 rfl hQ (Nat.le_of_ble_eq_true rfl) (Nat.le_of_ble_eq_true rfl) ⟨(by unfold m_best; rw [if_pos c5, ← hal_ 1, if_pos (Nat.lt_one_iff.mp g_)]), rfl⟩
    · skip
      have g_ : ¬ (solY S (nI (2 ^ S 1 - 1)) 1).1 < 1 := cf_t c30
      refine jv_aload_n X dX0_best_33 0 rfl ?_
      refine jv_iload_n X dX0_best_34 2 rfl ?_
      refine jv_ask (jv_runV (As := [.int (nI p_.toNatClampNeg)]) (rest := []) X dX0_best_35 (c_X16_stateOf hG hB_ hS hL hPP hs4_ p_.toNatClampNeg (by omega)) (lw_V q1351 q1352 q1353 q124 q1354) hd_X16_stateOf ht4 rfl (Nat.le_of_ble_eq_true rfl) (Nat.le_of_ble_eq_true rfl) (by omega) (by omega) rfl (Nat.le_of_ble_eq_true rfl)) ?_
      refine jv_goto 43 X dX0_best_38 (by decide) ?_
      refine jv_fewer (jag.few hag4) ?_
      exact jv_iret (v := nI (e4_ p_.toNatClampNeg)) X dX0_best_43 rfl hQ (Nat.le_of_ble_eq_true rfl) (Nat.le_of_ble_eq_true rfl) ⟨(by unfold m_best; rw [if_pos c5, ← hal_ 1, if_neg (b1_n g_)]; exact congrArg nI (hd4_ g_ _ hpn_)), rfl⟩
  · skip
    refine jv_iconst (v := (-1)) X dX0_best_8 rfl ?_
    exact jv_iret (v := (-1)) X dX0_best_9 rfl hQ (Nat.le_of_ble_eq_true rfl) (Nat.le_of_ble_eq_true rfl) ⟨(by unfold m_best; rw [if_neg (by rw [c5]; decide)]), rfl⟩
theorem hd_X0_isSolvable : jv_dd yX0_isSolvable 1 := by unfold jv_dd; decide +kernel
set_option maxHeartbeats 4000000 in
theorem c_X0_isSolvable {l : Launch} {G : jv_G} {M : jv_M} {σ : jk_A} (hG : jk_G G σ) {τ : Nat → Nat} {xa b pa ip rp : Nat} {sv : Option Nat} {eA_ fA_ : Int32} {S : Nat → Nat} (hx : M xa = some (.inr (0, [.ref b, .ref pa, .ref ip, .ref rp, va_rf sv,   .int eA_, .int fA_]))) (hB : jbd G M τ b S) (hS : wfS S) (hL : wfL S) (hPP : wfP S) (hV : wfV S) (m_ : Int32)  : jv_Ct G l yX0_isSolvable cX0_isSolvable 2 (some .boolean) 48 334 1097 1448 [.ref xa, .int m_] M (jv_qi G (jv_pi (bI (!decide ((solY S m_ 1).1 = 0))) M)) := by
  refine jv_Ct.of (lv := [(0, .ref xa), (1, .int m_)]) (by decide) (Nat.le_of_ble_eq_true rfl) rfl ?_
  intro x Q_ hl_ hQ X
  subst hl_
  have hB_ := hB
  obtain ⟨lp, lr, la, P, R, A, hb, hfb, ⟨⟨mp_, ep, fp, hlp, hep, hn6, hfp, -, -, -⟩, hP⟩, ⟨⟨mr_, er, fr_, hlr, her, hn30, hfr_, -, -, -⟩, hR⟩, ⟨ma_, ea, fa, hla, hea, hn6a, hfa, -, -, -⟩, hA⟩ := hB
  have hW := hS.1
  have hp0 := hW.p
  have hr0 := hW.r
  have ha0 := hW.a
  refine jv_new (k1 := 1) (n1 := 5) X dX0_isSolvable_0 (T := TX16) (N := 5) (C := RX16) (fs := [.null, .null, .null, .int 0, .null]) (ci := 13) rfl in_X16 tyX16 tyX16_ok q1332 q1333 q124 rfl rfl rfl (Nat.le_of_ble_eq_true rfl) (Nat.le_of_ble_eq_true rfl) (fun q_1 hnq_1 hbq_1 => ?_)
  refine jv_dup X dX0_isSolvable_3 rfl ?_
  refine jv_aload_n X dX0_isSolvable_4 0 rfl ?_
  refine jv_get X dX0_isSolvable_5 ((jag.new jag.rf hnq_1).c hx) (T := TX0) (N := 7) (C := RX0) rfl in_X0 0 (by decide) q257 rfl rfl ?_
  refine jv_iload_n X dX0_isSolvable_8 1 rfl ?_
  refine jv_callv (jv_runI (As := [.ref b, .int m_]) (rest := [.ref q_1]) X dX0_isSolvable_9 (c_X16_init hG hB_ hS hL hV hnq_1 hbq_1 m_) (lw_meth q1336) q124 q1334 q1335 rfl hd_X16_init (Nat.le_of_ble_eq_true rfl) (Nat.le_of_ble_eq_true rfl) (by omega) (by omega) rfl (Nat.le_of_ble_eq_true rfl)) (fun M2 h_ => ?_)
  obtain ⟨ma, oa, sa, hse⟩ := h_
  obtain ⟨⟨ht2, hft2, hnt2⟩, ⟨gm2, hma2, hgm2⟩, ⟨go2, hoa2, hgo2⟩, ⟨gs2, hsa2, hgs2, hfsa2, hnsa2⟩, he62, hms2, hos2, hag2⟩ := id hse
  refine jv_calli (jv_runV (As := []) (rest := []) X dX0_isSolvable_12 (c_X16_isThere hG hB_ hS hL hPP hse) (lw_V q1344 q1345 q1346 q124 q1347) hd_X16_isThere ht2 rfl (Nat.le_of_ble_eq_true rfl) (Nat.le_of_ble_eq_true rfl) (by omega) (by omega) rfl (Nat.le_of_ble_eq_true rfl)) (fun rr_ M4_ h_ => ?_)
  obtain ⟨hr_, e4_, hs4_, hd4_⟩ := h_
  rw [hr_]
  clear hr_
  obtain ⟨⟨ht4, hft4, hnt4⟩, ⟨gm4, hma4, hgm4⟩, ⟨go4, hoa4, hgo4⟩, ⟨gs4, hsa4, hgs4, hfsa4, hnsa4⟩, he64, hms4, hos4, hag4⟩ := id hs4_
  refine jv_fewer (jag.few hag4) ?_
  exact jv_iret (v := bI (!decide ((solY S m_ 1).1 < 1))) X dX0_isSolvable_15 (bI_nar _) hQ (Nat.le_of_ble_eq_true rfl) (Nat.le_of_ble_eq_true rfl) ⟨(congrArg bI (by simp only [Nat.lt_one_iff])), rfl⟩
theorem hd_X0_without : jv_dd yX0_without 1 := by unfold jv_dd; decide +kernel
set_option maxHeartbeats 4000000 in
theorem c_X0_without {l : Launch} {G : jv_G} {M : jv_M} {σ : jk_A} (hG : jk_G G σ) {τ : Nat → Nat} {xa b pa ip rp : Nat} {sv : Option Nat} {eA_ fA_ : Int32} {S : Nat → Nat} (hx : M xa = some (.inr (0, [.ref b, .ref pa, .ref ip, .ref rp, va_rf sv,   .int eA_, .int fA_]))) (hB : jbd G M τ b S) (hS : wfS S) (hL : wfL S) (hPP : wfP S) (hV : wfV S) (r_ : Int32)  : jv_Ct G l yX0_without cX0_without 2 (some .int) 48 334 1098 1449 [.ref xa, .int r_] M (jv_qi G (jv_pi (m_without S r_) M)) := by
  refine jv_Ct.of (lv := [(0, .ref xa), (1, .int r_)]) (by decide) (Nat.le_of_ble_eq_true rfl) rfl ?_
  intro x Q_ hl_ hQ X
  subst hl_
  have hB_ := hB
  obtain ⟨lp, lr, la, P, R, A, hb, hfb, ⟨⟨mp_, ep, fp, hlp, hep, hn6, hfp, -, -, -⟩, hP⟩, ⟨⟨mr_, er, fr_, hlr, her, hn30, hfr_, -, -, -⟩, hR⟩, ⟨ma_, ea, fa, hla, hea, hn6a, hfa, -, -, -⟩, hA⟩ := hB
  have hW := hS.1
  have hp0 := hW.p
  have hr0 := hW.r
  have ha0 := hW.a
  refine jv_aload_n X dX0_without_0 0 rfl ?_
  refine jv_iload_n X dX0_without_1 1 rfl ?_
  refine jv_ask (jv_runV (As := [.int r_]) (rest := []) X dX0_without_2 (c_X0_isRule hG hx hB_ hS hL hPP r_) (lw_V q791 q793 qs16 q90 q794) hd_X0_isRule hx rfl (Nat.le_of_ble_eq_true rfl) (Nat.le_of_ble_eq_true rfl) (Nat.le_of_ble_eq_true rfl) (Nat.le_of_ble_eq_true rfl) rfl (Nat.le_of_ble_eq_true rfl)) ?_
  refine jb_if_eq 35 X dX0_without_5 (by decide) (fun c5 => ?_) (fun c5 => ?_)
  · skip
    refine jv_iconst (v := (-1)) X dX0_without_35 rfl ?_
    exact jv_iret (v := (-1)) X dX0_without_36 rfl hQ (Nat.le_of_ble_eq_true rfl) (Nat.le_of_ble_eq_true rfl) ⟨(by unfold m_without; rw [if_neg (by rw [c5]; decide)]), rfl⟩
  · skip
    have hq_r_ : nI (r_.toNatClampNeg) = r_ := (v_isRule_n hW c5).2
    refine jv_to (lv' := [(0, .ref xa), (1, .int (nI r_.toNatClampNeg))]) (st' := []) (by rw [hq_r_]) rfl ?_
    have hal_ := solY_m (all_EVa hW (unv (2 ^ r_.toNatClampNeg)))
    have hrn_ := (v_isRule_n hW c5).1
    refine jv_new (k1 := 1) (n1 := 6) X dX0_without_8 (T := TX15) (N := 6) (C := RX15) (fs := [.null, .null, .null, .int 0, .null, .int 0]) (ci := 12) rfl in_X15 tyX15 tyX15_ok q1175 q1176 q123 rfl rfl rfl (Nat.le_of_ble_eq_true rfl) (Nat.le_of_ble_eq_true rfl) (fun q_1 hnq_1 hbq_1 => ?_)
    refine jv_dup X dX0_without_11 rfl ?_
    refine jv_aload_n X dX0_without_12 0 rfl ?_
    refine jv_get X dX0_without_13 ((jag.new jag.rf hnq_1).c hx) (T := TX0) (N := 7) (C := RX0) rfl in_X0 0 (by decide) q257 rfl rfl ?_
    refine jv_aload_n X dX0_without_16 0 rfl ?_
    refine jv_ask (jv_runV (As := []) (rest := [.ref b, .ref q_1, .ref q_1]) X dX0_without_17 (c_X0_allRules hG ((jag.new jag.rf hnq_1).c hx) (hB_.sub (jag.new jag.rf hnq_1) hp0) hS hL hPP) (lw_V q1177 q1179 qs26 q90 q1180) hd_X0_allRules ((jag.new jag.rf hnq_1).c hx) rfl (Nat.le_of_ble_eq_true rfl) (Nat.le_of_ble_eq_true rfl) (by omega) (by omega) rfl (Nat.le_of_ble_eq_true rfl)) ?_
    refine jv_iconst (v := nI 1) X dX0_without_20 rfl ?_
    refine jv_iload_n X dX0_without_21 1 rfl ?_
    refine jv_ishl (w := nI (2 ^ r_.toNatClampNeg)) X dX0_without_22 (ni_shl1 (by omega)) ?_
    refine jv_iconst (v := (-1)) X dX0_without_23 rfl ?_
    refine jv_ixor (w := (nI (2 ^ r_.toNatClampNeg)) ^^^ (-1)) X dX0_without_24 rfl ?_
    refine jv_iand (w := (nI (2 ^ S 1 - 1)) &&& ((nI (2 ^ r_.toNatClampNeg)) ^^^ (-1))) X dX0_without_25 rfl ?_
    refine jv_callv (jv_runI (As := [.ref b, .int ((nI (2 ^ S 1 - 1)) &&& ((nI (2 ^ r_.toNatClampNeg)) ^^^ (-1)))]) (rest := [.ref q_1]) X dX0_without_26 (c_X15_init hG hB_ hS hL hV hnq_1 hbq_1 ((nI (2 ^ S 1 - 1)) &&& ((nI (2 ^ r_.toNatClampNeg)) ^^^ (-1)))) (lw_meth q1183) q123 q1181 q1182 rfl hd_X15_init (Nat.le_of_ble_eq_true rfl) (Nat.le_of_ble_eq_true rfl) (by omega) (by omega) rfl (Nat.le_of_ble_eq_true rfl)) (fun M2 h_ => ?_)
    obtain ⟨ma, oa, sa, hse⟩ := h_
    obtain ⟨⟨ht2, hft2, hnt2⟩, ⟨gm2, hma2, hgm2⟩, ⟨go2, hoa2, hgo2⟩, ⟨gs2, hsa2, hgs2, hfsa2, hnsa2⟩, he62, hms2, hos2, hag2⟩ := id hse
    refine jv_calli (jv_runV (As := []) (rest := []) X dX0_without_29 (c_X15_all hG hB_ hS hL hPP hse) (lw_V q1222 q1223 q1224 q123 q1225) hd_X15_all ht2 rfl (Nat.le_of_ble_eq_true rfl) (Nat.le_of_ble_eq_true rfl) (by omega) (by omega) rfl (Nat.le_of_ble_eq_true rfl)) (fun rr_ M3 h_ => ?_)
    obtain ⟨hr_, hag3⟩ := h_
    rw [hr_]
    clear hr_
    refine jv_goto 36 X dX0_without_32 (by decide) ?_
    refine jv_fewer (jag.few hag3) ?_
    exact jv_iret (v := nI ((solY S ((nI (2 ^ S 1 - 1)) &&& ((nI (2 ^ r_.toNatClampNeg)) ^^^ (-1))) 1000000).1)) X dX0_without_36 rfl hQ (Nat.le_of_ble_eq_true rfl) (Nat.le_of_ble_eq_true rfl) ⟨(by unfold m_without; rw [if_pos c5]; exact congrArg (fun z : t_Y => nI z.1) (hal_ 1000000)), rfl⟩
theorem hd_X0_possible : jv_dd yX0_possible 1 := by unfold jv_dd; decide +kernel
set_option maxHeartbeats 4000000 in
theorem c_X0_possible {l : Launch} {G : jv_G} {M : jv_M} {σ : jk_A} (hG : jk_G G σ) {τ : Nat → Nat} {xa b pa ip rp : Nat} {sv : Option Nat} {eA_ fA_ : Int32} {S : Nat → Nat} (hx : M xa = some (.inr (0, [.ref b, .ref pa, .ref ip, .ref rp, va_rf sv,   .int eA_, .int fA_]))) (hB : jbd G M τ b S) (hS : wfS S) (hL : wfL S) (hPP : wfP S) (hV : wfV S) (p_ : Int32)  : jv_Ct G l yX0_possible cX0_possible 2 (some .int) 48 334 1099 1449 [.ref xa, .int p_] M (jv_qi G (jv_pi (m_possible S p_) M)) := by
  refine jv_Ct.of (lv := [(0, .ref xa), (1, .int p_)]) (by decide) (Nat.le_of_ble_eq_true rfl) rfl ?_
  intro x Q_ hl_ hQ X
  subst hl_
  have hB_ := hB
  obtain ⟨lp, lr, la, P, R, A, hb, hfb, ⟨⟨mp_, ep, fp, hlp, hep, hn6, hfp, -, -, -⟩, hP⟩, ⟨⟨mr_, er, fr_, hlr, her, hn30, hfr_, -, -, -⟩, hR⟩, ⟨ma_, ea, fa, hla, hea, hn6a, hfa, -, -, -⟩, hA⟩ := hB
  have hW := hS.1
  have hp0 := hW.p
  have hr0 := hW.r
  have ha0 := hW.a
  refine jv_aload_n X dX0_possible_0 0 rfl ?_
  refine jv_iload_n X dX0_possible_1 1 rfl ?_
  refine jv_ask (jv_runV (As := [.int p_]) (rest := []) X dX0_possible_2 (c_X0_isPack hG hx hB_ hS hL hPP p_) (lw_V q512 q514 qs7 q90 q515) hd_X0_isPack hx rfl (Nat.le_of_ble_eq_true rfl) (Nat.le_of_ble_eq_true rfl) (Nat.le_of_ble_eq_true rfl) (Nat.le_of_ble_eq_true rfl) rfl (Nat.le_of_ble_eq_true rfl)) ?_
  refine jb_if_eq 30 X dX0_possible_5 (by decide) (fun c5 => ?_) (fun c5 => ?_)
  · skip
    refine jv_iconst (v := (-1)) X dX0_possible_30 rfl ?_
    exact jv_iret (v := (-1)) X dX0_possible_31 rfl hQ (Nat.le_of_ble_eq_true rfl) (Nat.le_of_ble_eq_true rfl) ⟨(by unfold m_possible; rw [if_neg (by rw [c5]; decide)]), rfl⟩
  · skip
    have hq_p_ : nI (p_.toNatClampNeg) = p_ := (v_isPack_n hW c5).2
    refine jv_to (lv' := [(0, .ref xa), (1, .int (nI p_.toNatClampNeg))]) (st' := []) (by rw [hq_p_]) rfl ?_
    have hal_ := solY_m (all_EV hW)
    have hpn_ := (v_isPack_n hW c5).1
    refine jv_new (k1 := 1) (n1 := 7) X dX0_possible_8 (T := TX18) (N := 7) (C := RX18) (fs := [.null, .null, .null, .int 0, .null, .int 0, .int 0]) (ci := 15) rfl in_X18 tyX18 tyX18_ok q1414 q1415 q126 rfl rfl rfl (Nat.le_of_ble_eq_true rfl) (Nat.le_of_ble_eq_true rfl) (fun q_1 hnq_1 hbq_1 => ?_)
    refine jv_dup X dX0_possible_11 rfl ?_
    refine jv_aload_n X dX0_possible_12 0 rfl ?_
    refine jv_get X dX0_possible_13 ((jag.new jag.rf hnq_1).c hx) (T := TX0) (N := 7) (C := RX0) rfl in_X0 0 (by decide) q257 rfl rfl ?_
    refine jv_aload_n X dX0_possible_16 0 rfl ?_
    refine jv_ask (jv_runV (As := []) (rest := [.ref b, .ref q_1, .ref q_1]) X dX0_possible_17 (c_X0_allRules hG ((jag.new jag.rf hnq_1).c hx) (hB_.sub (jag.new jag.rf hnq_1) hp0) hS hL hPP) (lw_V q1177 q1179 qs26 q90 q1180) hd_X0_allRules ((jag.new jag.rf hnq_1).c hx) rfl (Nat.le_of_ble_eq_true rfl) (Nat.le_of_ble_eq_true rfl) (by omega) (by omega) rfl (Nat.le_of_ble_eq_true rfl)) ?_
    refine jv_iload_n X dX0_possible_20 1 rfl ?_
    refine jv_callv (jv_runI (As := [.ref b, .int (nI (2 ^ S 1 - 1)), .int (nI p_.toNatClampNeg)]) (rest := [.ref q_1]) X dX0_possible_21 (c_X18_init hG hB_ hS hL hV hnq_1 hbq_1 (nI (2 ^ S 1 - 1)) p_.toNatClampNeg) (lw_meth q1418) q126 q1416 q1417 rfl hd_X18_init (Nat.le_of_ble_eq_true rfl) (Nat.le_of_ble_eq_true rfl) (by omega) (by omega) rfl (Nat.le_of_ble_eq_true rfl)) (fun M2 h_ => ?_)
    obtain ⟨ma, oa, sa, hse⟩ := h_
    obtain ⟨⟨ht2, hft2, hnt2⟩, ⟨gm2, hma2, hgm2⟩, ⟨go2, hoa2, hgo2⟩, ⟨gs2, hsa2, hgs2, hfsa2, hnsa2⟩, he62, hms2, hos2, hag2⟩ := id hse
    refine jv_calli (jv_runV (As := []) (rest := []) X dX0_possible_24 (c_X18_all hG hB_ hS hL hPP (gp_ := p_.toNatClampNeg) hpn_ hse) (lw_V q1432 q1433 q1434 q126 q1435) hd_X18_all ht2 rfl (Nat.le_of_ble_eq_true rfl) (Nat.le_of_ble_eq_true rfl) (by omega) (by omega) rfl (Nat.le_of_ble_eq_true rfl)) (fun rr_ M3 h_ => ?_)
    obtain ⟨hr_, hag3⟩ := h_
    rw [hr_]
    clear hr_
    refine jv_goto 31 X dX0_possible_27 (by decide) ?_
    refine jv_fewer (jag.few hag3) ?_
    exact jv_iret (v := nI ((solY S (nI (2 ^ S 1 - 1)) 1000000).2.2 p_.toNatClampNeg)) X dX0_possible_31 rfl hQ (Nat.le_of_ble_eq_true rfl) (Nat.le_of_ble_eq_true rfl) ⟨(by unfold m_possible; rw [if_pos c5]; exact congrArg (fun z : t_Y => nI (z.2.2 _)) (hal_ 1000000)), rfl⟩
theorem hd_X0_core : jv_dd yX0_core 0 := by unfold jv_dd; decide +kernel
set_option maxHeartbeats 4000000 in
theorem c_X0_core {l : Launch} {G : jv_G} {M : jv_M} {σ : jk_A} (hG : jk_G G σ) {τ : Nat → Nat} {xa b pa ip rp : Nat} {sv : Option Nat} {eA_ fA_ : Int32} {S : Nat → Nat} (hx : M xa = some (.inr (0, [.ref b, .ref pa, .ref ip, .ref rp, va_rf sv,   .int eA_, .int fA_]))) (hB : jbd G M τ b S) (hS : wfS S) (hL : wfL S) (hPP : wfP S) (hV : wfV S)   : jv_Ct G l yX0_core cX0_core 3 (some .int) 49 10354 34007 1469 [.ref xa] M (jv_qi G (jv_pi (m_core S) M)) := by
  refine jv_Ct.of (lv := [(0, .ref xa)]) (by decide) (Nat.le_of_ble_eq_true rfl) rfl ?_
  intro x Q_ hl_ hQ X
  subst hl_
  have hB_ := hB
  obtain ⟨lp, lr, la, P, R, A, hb, hfb, ⟨⟨mp_, ep, fp, hlp, hep, hn6, hfp, -, -, -⟩, hP⟩, ⟨⟨mr_, er, fr_, hlr, her, hn30, hfr_, -, -, -⟩, hR⟩, ⟨ma_, ea, fa, hla, hea, hn6a, hfa, -, -, -⟩, hA⟩ := hB
  have hW := hS.1
  have hp0 := hW.p
  have hr0 := hW.r
  have ha0 := hW.a
  have hal_ := solY_m (all_EV hW)
  refine jv_aload_n X dX0_core_0 0 rfl ?_
  refine jv_aload_n X dX0_core_1 0 rfl ?_
  refine jv_ask (jv_runV (As := []) (rest := [.ref xa]) X dX0_core_2 (c_X0_allRules hG hx hB_ hS hL hPP) (lw_V q1177 q1179 qs26 q90 q1180) hd_X0_allRules hx rfl (Nat.le_of_ble_eq_true rfl) (Nat.le_of_ble_eq_true rfl) (Nat.le_of_ble_eq_true rfl) (Nat.le_of_ble_eq_true rfl) rfl (Nat.le_of_ble_eq_true rfl)) ?_
  refine jv_ask (jv_runV (As := [.int (nI (2 ^ S 1 - 1))]) (rest := []) X dX0_core_5 (c_X0_isSolvable hG hx hB_ hS hL hPP hV (nI (2 ^ S 1 - 1))) (lw_V q1405 q1407 qs28 q90 q1408) hd_X0_isSolvable hx rfl (Nat.le_of_ble_eq_true rfl) (Nat.le_of_ble_eq_true rfl) (by omega) (by omega) rfl (Nat.le_of_ble_eq_true rfl)) ?_
  refine jb_if_eq 14 X dX0_core_8 (by decide) (fun c8 => ?_) (fun c8 => ?_)
  · skip
    have g_ := cf_f c8
    refine jv_iconst (v := nI 0) X dX0_core_14 rfl ?_
    refine jv_istore_n (lv' := [(1, .int (nI 0)), (0, .ref xa)]) X dX0_core_15 rfl (by decide) rfl ?_
    refine jv_iconst (v := nI 0) X dX0_core_16 rfl ?_
    refine jv_istore_n (lv' := [(2, .int (nI 0)), (1, .int (nI 0)), (0, .ref xa)]) X dX0_core_17 rfl (by decide) rfl ?_
    have lp18_1 : ∀ (d_18 : Nat) (i : Nat) (w : Nat), i ≤ S 1 → w = cosN S i → S 1 - i < d_18 → jv_J x G 3 Q_ M 334 1097 18 [(0, .ref xa), (1, .int (nI w)), (2, .int (nI i))] [] := by
      intro d_18
      induction d_18 with
      | zero => intro i w hi hw hm_18; exact absurd hm_18 (Nat.not_lt_zero _)
      | succ d_18 ih_18 =>
        intro i w hi hw hm_18
        refine jv_iload_n X dX0_core_18 2 rfl ?_
        refine jv_aload_n X dX0_core_19 0 rfl ?_
        refine jv_get X dX0_core_20 hx (T := TX0) (N := 7) (C := RX0) rfl in_X0 0 (by decide) q257 rfl rfl ?_
        refine jv_getN X dX0_core_23 hb (T := TX1) (N := 3) (C := RX1) rfl in_X1 1 (by decide) q188 rfl rfl ?_
        refine jv_ask (jv_runV (As := []) (rest := [.int (nI i)]) X dX0_core_26 (c_J2_size hlr) (lw_V q283 q284 q285 q94 q286) hd_J2_size hlr rfl (Nat.le_of_ble_eq_true rfl) (Nat.le_of_ble_eq_true rfl) (by omega) (by omega) rfl (Nat.le_of_ble_eq_true rfl)) ?_
        refine jn_icmp_ge 69 X dX0_core_29 (by decide) (by omega) (by omega) (fun c29 => ?_) (fun c29 => ?_)
        · skip
          rw [hw, show i = S 1 by omega]
          refine jv_iconst (v := nI 0) X dX0_core_69 rfl ?_
          refine jv_istore_n (lv' := [(2, .int (nI 0)), (0, .ref xa), (1, .int (nI (cosN S (S 1))))]) X dX0_core_70 rfl (by decide) rfl ?_
          have lp71_2 : ∀ (d_71 : Nat) (r : Nat) (W_ : Int32), r ≤ S 1 → corN S (S 1) 0 (nI (cosN S (S 1))) = corN S (S 1 - r) r W_ → S 1 - r < d_71 → jv_J x G 3 Q_ M (334 + 334 * r) (1097 + 1097 * r) 71 [(0, .ref xa), (1, .int W_), (2, .int (nI r))] [] := by
            intro d_71
            induction d_71 with
            | zero => intro r W_ hr hW2 hm_71; exact absurd hm_71 (Nat.not_lt_zero _)
            | succ d_71 ih_71 =>
              intro r W_ hr hW2 hm_71
              refine jv_iload_n X dX0_core_71 2 rfl ?_
              refine jv_aload_n X dX0_core_72 0 rfl ?_
              refine jv_get X dX0_core_73 hx (T := TX0) (N := 7) (C := RX0) rfl in_X0 0 (by decide) q257 rfl rfl ?_
              refine jv_getN X dX0_core_76 hb (T := TX1) (N := 3) (C := RX1) rfl in_X1 1 (by decide) q188 rfl rfl ?_
              refine jv_ask (jv_runV (As := []) (rest := [.int (nI r)]) X dX0_core_79 (c_J2_size hlr) (lw_V q283 q284 q285 q94 q286) hd_J2_size hlr rfl (Nat.le_of_ble_eq_true rfl) (Nat.le_of_ble_eq_true rfl) (by omega) (by omega) rfl (Nat.le_of_ble_eq_true rfl)) ?_
              refine jn_icmp_ge 125 X dX0_core_82 (by decide) (by omega) (by omega) (fun c82 => ?_) (fun c82 => ?_)
              · skip
                refine jv_iload_n X dX0_core_125 1 rfl ?_
                exact jv_iret (v := W_) X dX0_core_126 rfl hQ (by omega) (by omega) ⟨(by unfold m_core; rw [← hal_ 1, if_pos g_, hW2, show S 1 - r = 0 by omega]; rfl), rfl⟩
              · skip
                refine jv_iload_n X dX0_core_85 1 rfl ?_
                refine jv_iload_n X dX0_core_86 2 rfl ?_
                refine jv_ask (jv_runS (As := [.int W_, .int (nI r)]) (rest := []) X dX0_core_87 (c_X0_has W_ (nI r)) (lw_S q676 q677 q90 q678) hd_X0_has (Nat.le_of_ble_eq_true rfl) (Nat.le_of_ble_eq_true rfl) (by omega) (by omega) rfl (Nat.le_of_ble_eq_true rfl)) ?_
                refine jb_if_eq 117 X dX0_core_90 (by decide) (fun c90 => ?_) (fun c90 => ?_)
                · skip
                  refine jv_iload_n X dX0_core_117 1 rfl ?_
                  refine jv_istore_n (lv' := [(1, .int W_), (0, .ref xa), (2, .int (nI r))]) X dX0_core_118 rfl (by decide) rfl ?_
                  refine jv_iinc (v := nI (r + 1)) (lv' := [(2, .int (nI (r + 1))), (1, .int W_), (0, .ref xa)]) X dX0_core_119 2 rfl (nI_1 _) (by decide) rfl ?_
                  refine jv_goto 71 X dX0_core_122 (by decide) ?_
                  refine jv_lv (lv' := [(0, .ref xa), (1, .int W_), (2, .int (nI (r + 1)))]) [2, 1, 0] rfl ?_
                  exact jv_widen (by omega) (by omega) (ih_71 (r + 1) W_ (by omega) (hW2.trans (by rw [corN_s (by omega), if_neg (hasI_f1 c90), show S 1 - (r + 1) = S 1 - r - 1 by omega]; try rfl)) (by omega))
                · skip
                  refine jv_aload_n X dX0_core_93 0 rfl ?_
                  refine jv_iload_n X dX0_core_94 1 rfl ?_
                  refine jv_iconst (v := nI 1) X dX0_core_95 rfl ?_
                  refine jv_iload_n X dX0_core_96 2 rfl ?_
                  refine jv_ishl (w := nI (2 ^ r)) X dX0_core_97 (ni_shl1 (by omega)) ?_
                  refine jv_iconst (v := (-1)) X dX0_core_98 rfl ?_
                  refine jv_ixor (w := (nI (2 ^ r)) ^^^ (-1)) X dX0_core_99 rfl ?_
                  refine jv_iand (w := W_ &&& ((nI (2 ^ r)) ^^^ (-1))) X dX0_core_100 rfl ?_
                  refine jv_ask (jv_runV (As := [.int (W_ &&& ((nI (2 ^ r)) ^^^ (-1)))]) (rest := []) X dX0_core_101 (c_X0_isSolvable hG hx hB_ hS hL hPP hV (W_ &&& ((nI (2 ^ r)) ^^^ (-1)))) (lw_V q1405 q1407 qs28 q90 q1408) hd_X0_isSolvable hx rfl (Nat.le_of_ble_eq_true rfl) (Nat.le_of_ble_eq_true rfl) (by omega) (by omega) rfl (Nat.le_of_ble_eq_true rfl)) ?_
                  refine jb_if_ne 117 X dX0_core_104 (by decide) (fun c104 => ?_) (fun c104 => ?_)
                  · skip
                    refine jv_iload_n X dX0_core_117 1 rfl ?_
                    refine jv_istore_n (lv' := [(1, .int W_), (0, .ref xa), (2, .int (nI r))]) X dX0_core_118 rfl (by decide) rfl ?_
                    refine jv_iinc (v := nI (r + 1)) (lv' := [(2, .int (nI (r + 1))), (1, .int W_), (0, .ref xa)]) X dX0_core_119 2 rfl (nI_1 _) (by decide) rfl ?_
                    refine jv_goto 71 X dX0_core_122 (by decide) ?_
                    refine jv_lv (lv' := [(0, .ref xa), (1, .int W_), (2, .int (nI (r + 1)))]) [2, 1, 0] rfl ?_
                    exact jv_widen (by omega) (by omega) (ih_71 (r + 1) W_ (by omega) (hW2.trans (by rw [corN_s (by omega), if_pos (hasI_t c90), if_neg (show ¬ (solY S (W_ &&& unv (2 ^ r)) 1).1 = 0 from cf_t c104), show S 1 - (r + 1) = S 1 - r - 1 by omega]; try rfl)) (by omega))
                  · skip
                    refine jv_iload_n X dX0_core_107 1 rfl ?_
                    refine jv_iconst (v := nI 1) X dX0_core_108 rfl ?_
                    refine jv_iload_n X dX0_core_109 2 rfl ?_
                    refine jv_ishl (w := nI (2 ^ r)) X dX0_core_110 (ni_shl1 (by omega)) ?_
                    refine jv_iconst (v := (-1)) X dX0_core_111 rfl ?_
                    refine jv_ixor (w := (nI (2 ^ r)) ^^^ (-1)) X dX0_core_112 rfl ?_
                    refine jv_iand (w := W_ &&& ((nI (2 ^ r)) ^^^ (-1))) X dX0_core_113 rfl ?_
                    refine jv_goto 118 X dX0_core_114 (by decide) ?_
                    refine jv_istore_n (lv' := [(1, .int (W_ &&& ((nI (2 ^ r)) ^^^ (-1)))), (0, .ref xa), (2, .int (nI r))]) X dX0_core_118 rfl (by decide) rfl ?_
                    refine jv_iinc (v := nI (r + 1)) (lv' := [(2, .int (nI (r + 1))), (1, .int (W_ &&& ((nI (2 ^ r)) ^^^ (-1)))), (0, .ref xa)]) X dX0_core_119 2 rfl (nI_1 _) (by decide) rfl ?_
                    refine jv_goto 71 X dX0_core_122 (by decide) ?_
                    refine jv_lv (lv' := [(0, .ref xa), (1, .int (W_ &&& ((nI (2 ^ r)) ^^^ (-1)))), (2, .int (nI (r + 1)))]) [2, 1, 0] rfl ?_
                    exact jv_widen (by omega) (by omega) (ih_71 (r + 1) (W_ &&& ((nI (2 ^ r)) ^^^ (-1))) (by omega) (hW2.trans (by rw [corN_s (by omega), if_pos (hasI_t c90), if_pos (show (solY S (W_ &&& unv (2 ^ r)) 1).1 = 0 from cf_f c104), show S 1 - (r + 1) = S 1 - r - 1 by omega]; try rfl)) (by omega))
          refine jv_lv (lv' := [(0, .ref xa), (1, .int (nI (cosN S (S 1)))), (2, .int (nI 0))]) [1, 2, 0] rfl ?_
          exact jv_widen (by omega) (by omega) (lp71_2 (S 1 + 1) 0 (nI (cosN S (S 1))) (Nat.zero_le _) rfl (by omega))
        · skip
          refine jv_iload_n X dX0_core_32 1 rfl ?_
          refine jv_aload_n X dX0_core_33 0 rfl ?_
          refine jv_get X dX0_core_34 hx (T := TX0) (N := 7) (C := RX0) rfl in_X0 0 (by decide) q257 rfl rfl ?_
          refine jv_getN X dX0_core_37 hb (T := TX1) (N := 3) (C := RX1) rfl in_X1 1 (by decide) q188 rfl rfl ?_
          refine jv_iload_n X dX0_core_40 2 rfl ?_
          refine jv_callr (jv_runV (As := [.int (nI i)]) (rest := [.int (nI w)]) X dX0_core_41 (c_J2_get hlr her i (R i) (by omega) (by omega) (by omega) (by rw [hfr_ _ (by omega)]; rfl)) (lw_V q532 q533 q534 q94 q535) hd_J2_get hlr rfl (Nat.le_of_ble_eq_true rfl) (Nat.le_of_ble_eq_true rfl) (by omega) (by omega) rfl (Nat.le_of_ble_eq_true rfl)) (fun rr_ M_ h_ => ?_)
          obtain ⟨hr_, hm_⟩ := h_
          rw [hr_, hm_]
          clear hr_ hm_
          refine jr_cast X dX0_core_44 q626 (hR i (by omega)) ?_
          refine jv_ask (jr_kind (rest := [.int (nI w)]) X dX0_core_47 q1409 (hR i (by omega)) (Nat.le_of_ble_eq_true rfl) (Nat.le_of_ble_eq_true rfl) (Nat.le_of_ble_eq_true rfl) (Nat.le_of_ble_eq_true rfl) (Nat.le_of_ble_eq_true rfl)) ?_
          refine jv_iconst (v := nI 3) X dX0_core_50 rfl ?_
          have j61_4 : ∀ wx : Nat, wx = (if (v_ofRule S i 0) = 3 then 0 else (2 ^ i)) → jv_J x G 3 Q_ M 334 1097 61 [(0, .ref xa), (1, .int (nI w)), (2, .int (nI i))] [.int (nI wx), .int (nI w)] := by
            intro wx e_wx
            refine jv_ior (w := nI (w ||| wx)) X dX0_core_61 (ni_or _ _) ?_
            refine jv_istore_n (lv' := [(1, .int (nI (w ||| wx))), (0, .ref xa), (2, .int (nI i))]) X dX0_core_62 rfl (by decide) rfl ?_
            refine jv_iinc (v := nI (i + 1)) (lv' := [(2, .int (nI (i + 1))), (1, .int (nI (w ||| wx))), (0, .ref xa)]) X dX0_core_63 2 rfl (nI_1 _) (by decide) rfl ?_
            refine jv_goto 18 X dX0_core_66 (by decide) ?_
            refine jv_lv (lv' := [(0, .ref xa), (1, .int (nI (w ||| wx))), (2, .int (nI (i + 1)))]) [2, 1, 0] rfl ?_
            exact ih_18 (i + 1) (w ||| wx) (by omega) (by rw [hw, e_wx]; rfl) (by omega)
          refine jn_icmp_ne 58 X dX0_core_51 (by decide) (by have := hW.rk (show i < 30 by omega); omega) (by decide) (fun c51 => ?_) (fun c51 => ?_)
          · skip
            refine jv_iconst (v := nI 1) X dX0_core_58 rfl ?_
            refine jv_iload_n X dX0_core_59 2 rfl ?_
            refine jv_ishl (w := nI (2 ^ i)) X dX0_core_60 (ni_shl1 (by omega)) ?_
            exact j61_4 _ (if_neg c51).symm
          · skip
            refine jv_iconst (v := nI 0) X dX0_core_54 rfl ?_
            refine jv_goto 61 X dX0_core_55 (by decide) ?_
            exact j61_4 _ (if_pos c51).symm
    refine jv_lv (lv' := [(0, .ref xa), (1, .int (nI 0)), (2, .int (nI 0))]) [2, 1, 0] rfl ?_
    exact lp18_1 (S 1 + 1) 0 0 (Nat.zero_le _) rfl (by omega)
  · skip
    have g_ := cf_t c8
    refine jv_bipush (v := (-3)) X dX0_core_11 rfl ?_
    exact jv_iret (v := (-3)) X dX0_core_13 rfl hQ (Nat.le_of_ble_eq_true rfl) (Nat.le_of_ble_eq_true rfl) ⟨(by unfold m_core; rw [← hal_ 1, if_neg g_]), rfl⟩
