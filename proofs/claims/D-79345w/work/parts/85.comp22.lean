/-! searches: all of it -/
set_option maxRecDepth 100000
def Y0 : t_Y := (0, (fun _ => 0), fun _ => 0)
theorem pow6m {n : Nat} (h : n ≤ 6) : 0 + 6 ^ n < 1000000 := by
  have := Nat.pow_le_pow_right (show 0 < 6 by decide) h
  have e : (6 : Nat) ^ 6 = 46656 := by decide
  omega
theorem b1_n {Y : t_Y} (h : ¬ Y.1 < 1) : ¬ Y.1 = 0 := by omega
theorem hd_X15_init : jv_dd yX15_init 2 := by unfold jv_dd; decide +kernel
set_option maxHeartbeats 4000000 in
theorem c_X15_init {l : Launch} {G : jv_G}  {σ : jk_A} (hG : jk_G G σ) {B : jv_M} {τ : Nat → Nat} {b t : Nat} {S : Nat → Nat} (hB : jbd G B τ b S) (hS : wfS S) (hL : wfL S) (hV : wfV S) (hnt : B t = none) (hft : G.1 ≤ t) (m_ : Int32)  : jv_Ct G l yX15_init cX15_init 3 (none) 11 333 1092 326 [.ref t, .ref b, .int m_] (jv_up B t (.inr (12, [.null, .null, .null, .int 0, .null, .int 0]))) (jv_qv G (fun M' => ∃ ma oa sa, jse 12 [.int 0] G B M' S b t m_ ma oa sa (fun _ => 0))) := by
  refine jv_Ct.of (lv := [(0, .ref t), (1, .ref b), (2, .int m_)]) (by decide) (Nat.le_of_ble_eq_true rfl) rfl ?_
  intro x Q_ hl_ hQ X
  subst hl_
  have hB0 := hB
  obtain ⟨lp, lr, la, P, R, A, hb, hfb, ⟨⟨mp_, ep, fp, hlp, hep, hn6, hfp, -, -, -⟩, hP⟩, ⟨⟨mr_, er, fr_, hlr, her, hn30, hfr_, -, -, -⟩, hR⟩, ⟨ma_, ea, fa, hla, hea, hn6a, hfa, -, -, -⟩, hA⟩ := id hB0
  have hW := hS.1
  have hp0 := hW.p
  have hr0 := hW.r
  have ha0 := hW.a
  refine jv_aload_n X dX15_init_0 0 rfl ?_
  refine jv_aload_n X dX15_init_1 1 rfl ?_
  refine jv_iload_n X dX15_init_2 2 rfl ?_
  refine jv_callv (jv_runI (As := [.ref b, .int m_]) (rest := []) X dX15_init_3 (c_X14_init_X15 hG hB hS hL hV hnt hft m_) (lw_meth q1186) q122 q1184 q1185 rfl hd_X14_init (Nat.le_of_ble_eq_true rfl) (Nat.le_of_ble_eq_true rfl) (by omega) (by omega) rfl (Nat.le_of_ble_eq_true rfl)) (fun M1 h_ => ?_)
  obtain ⟨ma, oa, sa, hse⟩ := h_
  obtain ⟨⟨ht1, hft1, hnt1⟩, ⟨gm1, hma1, hgm1⟩, ⟨go1, hoa1, hgo1⟩, ⟨gs1, hsa1, hgs1, hfsa1, hnsa1⟩, he61, hms1, hos1, hag1⟩ := id hse
  exact jv_vret X dX15_init_6 hQ (Nat.le_of_ble_eq_true rfl) (Nat.le_of_ble_eq_true rfl) ⟨ma, oa, sa, hse⟩
theorem hd_X16_init : jv_dd yX16_init 2 := by unfold jv_dd; decide +kernel
set_option maxHeartbeats 4000000 in
theorem c_X16_init {l : Launch} {G : jv_G}  {σ : jk_A} (hG : jk_G G σ) {B : jv_M} {τ : Nat → Nat} {b t : Nat} {S : Nat → Nat} (hB : jbd G B τ b S) (hS : wfS S) (hL : wfL S) (hV : wfV S) (hnt : B t = none) (hft : G.1 ≤ t) (m_ : Int32)  : jv_Ct G l yX16_init cX16_init 3 (none) 11 333 1092 326 [.ref t, .ref b, .int m_] (jv_up B t (.inr (13, [.null, .null, .null, .int 0, .null]))) (jv_qv G (fun M' => ∃ ma oa sa, jse 13 [] G B M' S b t m_ ma oa sa (fun _ => 0))) := by
  refine jv_Ct.of (lv := [(0, .ref t), (1, .ref b), (2, .int m_)]) (by decide) (Nat.le_of_ble_eq_true rfl) rfl ?_
  intro x Q_ hl_ hQ X
  subst hl_
  have hB0 := hB
  obtain ⟨lp, lr, la, P, R, A, hb, hfb, ⟨⟨mp_, ep, fp, hlp, hep, hn6, hfp, -, -, -⟩, hP⟩, ⟨⟨mr_, er, fr_, hlr, her, hn30, hfr_, -, -, -⟩, hR⟩, ⟨ma_, ea, fa, hla, hea, hn6a, hfa, -, -, -⟩, hA⟩ := id hB0
  have hW := hS.1
  have hp0 := hW.p
  have hr0 := hW.r
  have ha0 := hW.a
  refine jv_aload_n X dX16_init_0 0 rfl ?_
  refine jv_aload_n X dX16_init_1 1 rfl ?_
  refine jv_iload_n X dX16_init_2 2 rfl ?_
  refine jv_callv (jv_runI (As := [.ref b, .int m_]) (rest := []) X dX16_init_3 (c_X14_init_X16 hG hB hS hL hV hnt hft m_) (lw_meth q1186) q122 q1337 q1185 rfl hd_X14_init (Nat.le_of_ble_eq_true rfl) (Nat.le_of_ble_eq_true rfl) (by omega) (by omega) rfl (Nat.le_of_ble_eq_true rfl)) (fun M1 h_ => ?_)
  obtain ⟨ma, oa, sa, hse⟩ := h_
  obtain ⟨⟨ht1, hft1, hnt1⟩, ⟨gm1, hma1, hgm1⟩, ⟨go1, hoa1, hgo1⟩, ⟨gs1, hsa1, hgs1, hfsa1, hnsa1⟩, he61, hms1, hos1, hag1⟩ := id hse
  exact jv_vret X dX16_init_6 hQ (Nat.le_of_ble_eq_true rfl) (Nat.le_of_ble_eq_true rfl) ⟨ma, oa, sa, hse⟩
theorem hd_X18_init : jv_dd yX18_init 3 := by unfold jv_dd; decide +kernel
set_option maxHeartbeats 4000000 in
theorem c_X18_init {l : Launch} {G : jv_G}  {σ : jk_A} (hG : jk_G G σ) {B : jv_M} {τ : Nat → Nat} {b t : Nat} {S : Nat → Nat} (hB : jbd G B τ b S) (hS : wfS S) (hL : wfL S) (hV : wfV S) (hnt : B t = none) (hft : G.1 ≤ t) (m_ : Int32) (gp_ : Nat)  : jv_Ct G l yX18_init cX18_init 4 (none) 11 333 1092 326 [.ref t, .ref b, .int m_, .int (nI gp_)] (jv_up B t (.inr (15, [.null, .null, .null, .int 0, .null, .int 0, .int 0]))) (jv_qv G (fun M' => ∃ ma oa sa, jse 15 [.int (nI gp_), .int 0] G B M' S b t m_ ma oa sa (fun _ => 0))) := by
  refine jv_Ct.of (lv := [(0, .ref t), (1, .ref b), (2, .int m_), (3, .int (nI gp_))]) (by decide) (Nat.le_of_ble_eq_true rfl) rfl ?_
  intro x Q_ hl_ hQ X
  subst hl_
  have hB0 := hB
  obtain ⟨lp, lr, la, P, R, A, hb, hfb, ⟨⟨mp_, ep, fp, hlp, hep, hn6, hfp, -, -, -⟩, hP⟩, ⟨⟨mr_, er, fr_, hlr, her, hn30, hfr_, -, -, -⟩, hR⟩, ⟨ma_, ea, fa, hla, hea, hn6a, hfa, -, -, -⟩, hA⟩ := id hB0
  have hW := hS.1
  have hp0 := hW.p
  have hr0 := hW.r
  have ha0 := hW.a
  refine jv_aload_n X dX18_init_0 0 rfl ?_
  refine jv_aload_n X dX18_init_1 1 rfl ?_
  refine jv_iload_n X dX18_init_2 2 rfl ?_
  refine jv_callv (jv_runI (As := [.ref b, .int m_]) (rest := []) X dX18_init_3 (c_X14_init_X18 hG hB hS hL hV hnt hft m_) (lw_meth q1186) q122 q1419 q1185 rfl hd_X14_init (Nat.le_of_ble_eq_true rfl) (Nat.le_of_ble_eq_true rfl) (by omega) (by omega) rfl (Nat.le_of_ble_eq_true rfl)) (fun M1 h_ => ?_)
  obtain ⟨ma, oa, sa, hse⟩ := h_
  obtain ⟨⟨ht1, hft1, hnt1⟩, ⟨gm1, hma1, hgm1⟩, ⟨go1, hoa1, hgo1⟩, ⟨gs1, hsa1, hgs1, hfsa1, hnsa1⟩, he61, hms1, hos1, hag1⟩ := id hse
  refine jv_aload_n X dX18_init_6 0 rfl ?_
  refine jv_iload_n X dX18_init_7 3 rfl ?_
  refine jv_putF (fs' := [.ref b, .ref ma, .ref oa, .int m_, .ref sa, .int (nI gp_), .int 0]) X dX18_init_8 ht1 hft1 (T := TX18) (N := 7) (C := RX18) rfl in_X18 tyX18 tyX18_ok nmX18 5 (by decide) q1420 rfl rfl rfl rfl rfl rfl rfl (show 5 < 7 from by decide) rfl ?_
  exact jv_vret X dX18_init_11 hQ (Nat.le_of_ble_eq_true rfl) (Nat.le_of_ble_eq_true rfl) ⟨ma, oa, sa, hse.upT (by decide)⟩
theorem hd_X15_all : jv_dd yX15_all 0 := by unfold jv_dd; decide +kernel
set_option maxHeartbeats 4000000 in
theorem c_X15_all {l : Launch} {G : jv_G} {M : jv_M} {σ : jk_A} (hG : jk_G G σ) {B : jv_M} {τ : Nat → Nat} {b t ma oa sa : Nat} {m_ : Int32} {S : Nat → Nat} (hB : jbd G B τ b S) (hS : wfS S) (hL : wfL S) (hPP : wfP S)  (hse : jse 12 (xsC Y0) G B M S b t m_ ma oa sa (fun _ => 0))   : jv_Ct G l yX15_all cX15_all 2 (some .int) 47 0 0 1428 [.ref t] M (jv_qi G (fun r M' => r = nI ((triF S m_ 1000000 (S 0) (fun _ => 0) Y0).1) ∧ jag B M')) := by
  refine jv_Ct.of (lv := [(0, .ref t)]) (by decide) (Nat.le_of_ble_eq_true rfl) rfl ?_
  intro x Q_ hl_ hQ X
  subst hl_
  have hB0 := hB
  obtain ⟨lp, lr, la, P, R, A, hb, hfb, ⟨⟨mp_, ep, fp, hlp, hep, hn6, hfp, -, -, -⟩, hP⟩, ⟨⟨mr_, er, fr_, hlr, her, hn30, hfr_, -, -, -⟩, hR⟩, ⟨ma_, ea, fa, hla, hea, hn6a, hfa, -, -, -⟩, hA⟩ := id hB0
  have hW := hS.1
  have hp0 := hW.p
  have hr0 := hW.r
  have ha0 := hW.a
  obtain ⟨⟨ht, hft, hnt⟩, ⟨gm, hma, hgm⟩, ⟨go, hoa, hgo⟩, ⟨gs, hsa, hgs, hfsa, hnsa⟩, he6, hms, hos, hag⟩ := id hse
  have hW_ := hS.1.p
  refine jv_aload_n X dX15_all_0 0 rfl ?_
  refine jv_iconst (v := nI 0) X dX15_all_1 rfl ?_
  refine jv_calli (jv_runU (As := [.int (nI 0)]) (rest := []) X dX15_all_2 (c_X14_goes_X15 hG hB0 hS hL hPP (S 0) 0 (Nat.zero_add _) M (fun _ => 0) (fun _ => 0) Y0 hse (fun q hq => absurd hq (Nat.not_lt_zero _)) (show 0 < 1000000 by decide) (pow6m hS.1.p)) (jv_cuI X (lw_U (x := yA_Counting_goes) q1226 q1227 q1229 q1230 q122 q1231) rfl ⟨by decide, by decide⟩ hd_yA_Counting_goes (by omega) (by omega)) ht (show jv_cl[12]? = some (RX15, TX15, 6) from rfl) (by omega) (by omega) rfl (Nat.le_of_ble_eq_true rfl)) (fun rr_ M3_ h_ => ?_)
  obtain ⟨hr_, e3_, hs3_, he3_, hd3_⟩ := h_
  rw [hr_]
  clear hr_
  obtain ⟨⟨ht3, hft3, hnt3⟩, ⟨gm3, hma3, hgm3⟩, ⟨go3, hoa3, hgo3⟩, ⟨gs3, hsa3, hgs3, hfsa3, hnsa3⟩, he63, hms3, hos3, hag3⟩ := id hs3_
  refine jv_istore_n (lv' := [(1, .int (bI (decide ((triF S m_ 1000000 (S 0) (fun _ => 0) Y0).1 < 1000000)))), (0, .ref t)]) X dX15_all_5 rfl (by decide) rfl ?_
  refine jv_aload_n X dX15_all_6 1 rfl ?_
  refine jv_get X dX15_all_7 ht3 (T := TX15) (N := 6) (C := RX15) rfl in_X15 5 (by decide) q1197 rfl rfl ?_
  exact jv_iret (v := nI ((triF S m_ 1000000 (S 0) (fun _ => 0) Y0).1)) X dX15_all_10 rfl hQ (Nat.le_of_ble_eq_true rfl) (Nat.le_of_ble_eq_true rfl) ⟨rfl, hag3⟩
theorem hd_X16_isThere : jv_dd yX16_isThere 0 := by unfold jv_dd; decide +kernel
set_option maxHeartbeats 4000000 in
theorem c_X16_isThere {l : Launch} {G : jv_G} {M : jv_M} {σ : jk_A} (hG : jk_G G σ) {B : jv_M} {τ : Nat → Nat} {b t ma oa sa : Nat} {m_ : Int32} {S : Nat → Nat} (hB : jbd G B τ b S) (hS : wfS S) (hL : wfL S) (hPP : wfP S)  (hse : jse 13 (xsF Y0) G B M S b t m_ ma oa sa (fun _ => 0))   : jv_Ct G l yX16_isThere cX16_isThere 1 (some .boolean) 47 0 0 1428 [.ref t] M (jv_qi G (fun r M' => r = bI (!decide ((triF S m_ 1 (S 0) (fun _ => 0) Y0).1 < 1)) ∧ ∃ e', jse 13 [] G B M' S b t m_ ma oa sa e' ∧ (¬ (triF S m_ 1 (S 0) (fun _ => 0) Y0).1 < 1 → ∀ q, q < S 0 → e' q = (triF S m_ 1 (S 0) (fun _ => 0) Y0).2.1 q))) := by
  refine jv_Ct.of (lv := [(0, .ref t)]) (by decide) (Nat.le_of_ble_eq_true rfl) rfl ?_
  intro x Q_ hl_ hQ X
  subst hl_
  have hB0 := hB
  obtain ⟨lp, lr, la, P, R, A, hb, hfb, ⟨⟨mp_, ep, fp, hlp, hep, hn6, hfp, -, -, -⟩, hP⟩, ⟨⟨mr_, er, fr_, hlr, her, hn30, hfr_, -, -, -⟩, hR⟩, ⟨ma_, ea, fa, hla, hea, hn6a, hfa, -, -, -⟩, hA⟩ := id hB0
  have hW := hS.1
  have hp0 := hW.p
  have hr0 := hW.r
  have ha0 := hW.a
  obtain ⟨⟨ht, hft, hnt⟩, ⟨gm, hma, hgm⟩, ⟨go, hoa, hgo⟩, ⟨gs, hsa, hgs, hfsa, hnsa⟩, he6, hms, hos, hag⟩ := id hse
  have hW_ := hS.1.p
  refine jv_aload_n X dX16_isThere_0 0 rfl ?_
  refine jv_iconst (v := nI 0) X dX16_isThere_1 rfl ?_
  refine jv_calli (jv_runU (As := [.int (nI 0)]) (rest := []) X dX16_isThere_2 (c_X14_goes_X16 hG hB0 hS hL hPP (S 0) 0 (Nat.zero_add _) M (fun _ => 0) (fun _ => 0) Y0 hse (fun q hq => absurd hq (Nat.not_lt_zero _)) (show 0 < 1 by decide)) (jv_cuI X (lw_U (x := yA_First_goes) q1348 q1349 q1350 q1230 q122 q1231) rfl ⟨by decide, by decide⟩ hd_yA_First_goes (by omega) (by omega)) ht (show jv_cl[13]? = some (RX16, TX16, 5) from rfl) (by omega) (by omega) rfl (Nat.le_of_ble_eq_true rfl)) (fun rr_ M3_ h_ => ?_)
  obtain ⟨hr_, e3_, hs3_, he3_, hd3_⟩ := h_
  rw [hr_]
  clear hr_
  obtain ⟨⟨ht3, hft3, hnt3⟩, ⟨gm3, hma3, hgm3⟩, ⟨go3, hoa3, hgo3⟩, ⟨gs3, hsa3, hgs3, hfsa3, hnsa3⟩, he63, hms3, hos3, hag3⟩ := id hs3_
  refine jb_if_ne 12 X dX16_isThere_5 (by decide) (fun c5 => ?_) (fun c5 => ?_)
  · skip
    refine jv_iconst (v := nI 0) X dX16_isThere_12 rfl ?_
    exact jv_iret (v := bI false) X dX16_isThere_13 (bI_nar _) hQ (Nat.le_of_ble_eq_true rfl) (Nat.le_of_ble_eq_true rfl) ⟨congrArg bI (by rw [c5]; rfl), e3_, hs3_, hd3_⟩
  · skip
    refine jv_iconst (v := nI 1) X dX16_isThere_8 rfl ?_
    refine jv_goto 13 X dX16_isThere_9 (by decide) ?_
    exact jv_iret (v := bI true) X dX16_isThere_13 (bI_nar _) hQ (Nat.le_of_ble_eq_true rfl) (Nat.le_of_ble_eq_true rfl) ⟨congrArg bI (by rw [c5]; rfl), e3_, hs3_, hd3_⟩
theorem hd_X16_stateOf : jv_dd yX16_stateOf 1 := by unfold jv_dd; decide +kernel
set_option maxHeartbeats 4000000 in
theorem c_X16_stateOf {l : Launch} {G : jv_G} {M : jv_M} {σ : jk_A} (hG : jk_G G σ) {B : jv_M} {τ : Nat → Nat} {b t ma oa sa : Nat} {m_ : Int32} {e : Nat → Nat} {S : Nat → Nat} (hB : jbd G B τ b S) (hS : wfS S) (hL : wfL S) (hPP : wfP S) (hse : jse 13 [] G B M S b t m_ ma oa sa e) (p_ : Nat) (hp : p_ < 6) : jv_Ct G l yX16_stateOf cX16_stateOf 2 (some .int) 0 0 0 0 [.ref t, .int (nI p_)] M (jv_qi G (jv_pi (nI (e p_)) M)) := by
  refine jv_Ct.of (lv := [(0, .ref t), (1, .int (nI p_))]) (by decide) (Nat.le_of_ble_eq_true rfl) rfl ?_
  intro x Q_ hl_ hQ X
  subst hl_
  have hB0 := hB
  obtain ⟨⟨ht, hft, hnt⟩, ⟨gm, hma, hgm⟩, ⟨go, hoa, hgo⟩, ⟨gs, hsa, hgs, hfsa, hnsa⟩, he6, hms, hos, hag⟩ := id hse
  replace hB := hB.sub hag hS.1.p
  have hB_ := hB
  obtain ⟨lp, lr, la, P, R, A, hb, hfb, ⟨⟨mp_, ep, fp, hlp, hep, hn6, hfp, -, -, -⟩, hP⟩, ⟨⟨mr_, er, fr_, hlr, her, hn30, hfr_, -, -, -⟩, hR⟩, ⟨ma_, ea, fa, hla, hea, hn6a, hfa, -, -, -⟩, hA⟩ := hB
  have hW := hS.1
  have hp0 := hW.p
  have hr0 := hW.r
  have ha0 := hW.a
  have he64_ : ∀ p, p < 6 → e p < 64 := fun p hp => Nat.lt_trans (he6 p hp) (by decide)
  refine jv_aload_n X dX16_stateOf_0 0 rfl ?_
  refine jv_getS X dX16_stateOf_1 ht (T := TX16) (N := 5) (C := RX16) rfl in_X16 4 (by decide) q1207 q1208 rfl ?_
  refine jv_iload_n X dX16_stateOf_4 1 rfl ?_
  refine jv_iald (v := nI (e p_)) X dX16_stateOf_5 hsa (jn_in (by omega) (by decide)) (by rw [nI_clamp (by omega)]; exact (hgs _ (by omega))) ?_
  exact jv_iret (v := nI (e p_)) X dX16_stateOf_6 rfl hQ (Nat.le_of_ble_eq_true rfl) (Nat.le_of_ble_eq_true rfl) ⟨rfl, rfl⟩
theorem hd_X18_all : jv_dd yX18_all 0 := by unfold jv_dd; decide +kernel
set_option maxHeartbeats 4000000 in
theorem c_X18_all {l : Launch} {G : jv_G} {M : jv_M} {σ : jk_A} (hG : jk_G G σ) {B : jv_M} {τ : Nat → Nat} {b t ma oa sa : Nat} {m_ : Int32} {S : Nat → Nat} (hB : jbd G B τ b S) (hS : wfS S) (hL : wfL S) (hPP : wfP S) {gp_ : Nat} (hgp : gp_ < S 0)  (hse : jse 15 ((xsG gp_) Y0) G B M S b t m_ ma oa sa (fun _ => 0))   : jv_Ct G l yX18_all cX18_all 2 (some .int) 47 0 0 1428 [.ref t] M (jv_qi G (fun r M' => r = nI ((triF S m_ 1000000 (S 0) (fun _ => 0) Y0).2.2 gp_) ∧ jag B M')) := by
  refine jv_Ct.of (lv := [(0, .ref t)]) (by decide) (Nat.le_of_ble_eq_true rfl) rfl ?_
  intro x Q_ hl_ hQ X
  subst hl_
  have hB0 := hB
  obtain ⟨lp, lr, la, P, R, A, hb, hfb, ⟨⟨mp_, ep, fp, hlp, hep, hn6, hfp, -, -, -⟩, hP⟩, ⟨⟨mr_, er, fr_, hlr, her, hn30, hfr_, -, -, -⟩, hR⟩, ⟨ma_, ea, fa, hla, hea, hn6a, hfa, -, -, -⟩, hA⟩ := id hB0
  have hW := hS.1
  have hp0 := hW.p
  have hr0 := hW.r
  have ha0 := hW.a
  obtain ⟨⟨ht, hft, hnt⟩, ⟨gm, hma, hgm⟩, ⟨go, hoa, hgo⟩, ⟨gs, hsa, hgs, hfsa, hnsa⟩, he6, hms, hos, hag⟩ := id hse
  have hW_ := hS.1.p
  refine jv_aload_n X dX18_all_0 0 rfl ?_
  refine jv_iconst (v := nI 0) X dX18_all_1 rfl ?_
  refine jv_calli (jv_runU (As := [.int (nI 0)]) (rest := []) X dX18_all_2 (c_X14_goes_X18 hG hB0 hS hL hPP hgp (S 0) 0 (Nat.zero_add _) M (fun _ => 0) (fun _ => 0) Y0 hse (fun q hq => absurd hq (Nat.not_lt_zero _)) (show 0 < 1000000 by decide) (pow6m hS.1.p)) (jv_cuI X (lw_U (x := yA_Gathering_goes) q1436 q1437 q1438 q1230 q122 q1231) rfl ⟨by decide, by decide⟩ hd_yA_Gathering_goes (by omega) (by omega)) ht (show jv_cl[15]? = some (RX18, TX18, 7) from rfl) (by omega) (by omega) rfl (Nat.le_of_ble_eq_true rfl)) (fun rr_ M3_ h_ => ?_)
  obtain ⟨hr_, e3_, hs3_, he3_, hd3_⟩ := h_
  rw [hr_]
  clear hr_
  obtain ⟨⟨ht3, hft3, hnt3⟩, ⟨gm3, hma3, hgm3⟩, ⟨go3, hoa3, hgo3⟩, ⟨gs3, hsa3, hgs3, hfsa3, hnsa3⟩, he63, hms3, hos3, hag3⟩ := id hs3_
  refine jv_istore_n (lv' := [(1, .int (bI (decide ((triF S m_ 1000000 (S 0) (fun _ => 0) Y0).1 < 1000000)))), (0, .ref t)]) X dX18_all_5 rfl (by decide) rfl ?_
  refine jv_aload_n X dX18_all_6 1 rfl ?_
  refine jv_get X dX18_all_7 ht3 (T := TX18) (N := 7) (C := RX18) rfl in_X18 6 (by decide) q1421 rfl rfl ?_
  exact jv_iret (v := nI ((triF S m_ 1000000 (S 0) (fun _ => 0) Y0).2.2 gp_)) X dX18_all_10 rfl hQ (Nat.le_of_ble_eq_true rfl) (Nat.le_of_ble_eq_true rfl) ⟨rfl, hag3⟩
