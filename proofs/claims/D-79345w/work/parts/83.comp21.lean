/-! searches: what is found -/
set_option maxRecDepth 100000
theorem jse.upS {ci : Nat} {xs : List Value} {G : jv_G} {B M : jv_M} {S : Nat → Nat} {b t : Nat} {m_ : Int32} {ma oa sa : Nat} {e : Nat → Nat} (h : jse ci xs G B M S b t m_ ma oa sa e) (hci : ci < 1000) {gs : Nat → Int32} (hsa : M sa = some (.inl (G.2.2.1 0, 6, .inl gs))) {p v : Nat} (hv : v < 6) : jse ci xs G B (jv_up M sa (.inl (G.2.2.1 0, 6, .inl (upd gs p (nI v))))) S b t m_ ma oa sa (up2 e p v) := by
  obtain ⟨⟨ht, hft, hnt⟩, ⟨gm, hma, hgm⟩, ⟨go, hoa, hgo⟩, ⟨gs', hsa', hgs, hfsa, hnsa⟩, he6, hms, hos, hag⟩ := h
  have e1 : gs' = gs := by
    have := hsa'.symm.trans hsa
    simpa using this
  subst e1
  refine ⟨⟨(jv_up_n (ck_ne ht hsa (by simp [ck]; omega))).trans ht, hft, hnt⟩, ⟨gm, (jv_up_n hms).trans hma, hgm⟩, ⟨go, (jv_up_n hos).trans hoa, hgo⟩, ⟨_, jv_up_s, fun q hq => ?_, hfsa, hnsa⟩, fun q hq => ?_, hms, hos, jag.put hag hnsa⟩
  · unfold upd up2
    by_cases z : q = p
    · rw [if_pos z, if_pos z]
    · rw [if_neg z, if_neg z]; exact hgs q hq
  · unfold up2
    split
    · exact hv
    · exact he6 q hq
theorem jse.upT {ci : Nat} {xs xs' : List Value} {G : jv_G} {B M : jv_M} {S : Nat → Nat} {b t : Nat} {m_ : Int32} {ma oa sa : Nat} {e : Nat → Nat} (h : jse ci xs G B M S b t m_ ma oa sa e) (hci : ci < 1000) : jse ci xs' G B (jv_up M t (.inr (ci, .ref b :: .ref ma :: .ref oa :: .int m_ :: .ref sa :: xs'))) S b t m_ ma oa sa e := by
  obtain ⟨⟨ht, hft, hnt⟩, ⟨gm, hma, hgm⟩, ⟨go, hoa, hgo⟩, ⟨gs, hsa, hgs, hfsa, hnsa⟩, he6, hms, hos, hag⟩ := h
  have n : ∀ {a : Nat} {N : Nat} {g : Nat → Int32}, M a = some (.inl (G.2.2.1 0, N, .inl g)) → a ≠ t := fun h => ck_ne h ht (by simp [ck]; omega)
  exact ⟨⟨jv_up_s, hft, hnt⟩, ⟨gm, (jv_up_n (n hma)).trans hma, hgm⟩, ⟨go, (jv_up_n (n hoa)).trans hoa, hgo⟩, ⟨gs, (jv_up_n (n hsa)).trans hsa, hgs, hfsa, hnsa⟩, he6, hms, hos, jag.put hag hnt⟩
def xsC (Y : t_Y) : List Value := [.int (nI Y.1)]
def xsF (_ : t_Y) : List Value := []
def xsG (g : Nat) (Y : t_Y) : List Value := [.int (nI g), .int (nI (Y.2.2 g))]
def goP (ci : Nat) (xs : t_Y → List Value) (G : jv_G) (B : jv_M) (S : Nat → Nat) (b t : Nat) (m_ : Int32) (ma oa sa most p d : Nat) (c : Nat → Nat) (Y : t_Y) (e : Nat → Nat) (r : Int32) (M' : jv_M) : Prop :=
  r = bI (decide ((triF S m_ most d c Y).1 < most)) ∧ ∃ e', jse ci (xs (triF S m_ most d c Y)) G B M' S b t m_ ma oa sa e' ∧ (∀ q, q < p → e' q = e q) ∧ (¬ (triF S m_ most d c Y).1 < most → ∀ q, q < S 0 → e' q = (triF S m_ most d c Y).2.1 q)
theorem triL_stp {step : Nat → t_Y → t_Y} {most : Nat} {Y : t_Y} (h : ¬ Y.1 < most) : ∀ e k, triL step most e k Y = Y
  | 0, _ => rfl
  | _ + 1, _ => if_neg h
theorem hd_X15_finds : jv_dd yX15_finds 0 := by unfold jv_dd; decide +kernel
set_option maxHeartbeats 4000000 in
theorem c_X15_finds {l : Launch} {G : jv_G} {M : jv_M} {σ : jk_A} (hG : jk_G G σ) {B : jv_M} {τ : Nat → Nat} {b t ma oa sa : Nat} {m_ : Int32} {xm_ : Int32} {e : Nat → Nat} {S : Nat → Nat} (hB : jbd G B τ b S) (hS : wfS S) (hL : wfL S) (hPP : wfP S) (hse : jse 12 [.int xm_] G B M S b t m_ ma oa sa e)   : jv_Ct G l yX15_finds cX15_finds 1 (some .boolean) 0 0 0 0 [.ref t] M (jv_qi G (fun r M' => r = bI true ∧ M' = jv_up M t (.inr (12, [.ref b, .ref ma, .ref oa, .int m_, .ref sa, .int (xm_ + nI 1)])))) := by
  refine jv_Ct.of (lv := [(0, .ref t)]) (by decide) (Nat.le_of_ble_eq_true rfl) rfl ?_
  intro x Q_ hl_ hQ X
  subst hl_
  have hB0 := hB
  obtain ⟨⟨ht, hft, hnt⟩, ⟨gm, hma, hgm⟩, ⟨go, hoa, hgo⟩, ⟨gs, hsa, hgs, hfsa, hnsa⟩, he6, hms, hos, hag⟩ := id hse
  replace hB := hB.sub hag hS.1.p
  have hB_ := hB
  obtain ⟨lp, lr, la, P, R, A, hb, hfb, ⟨⟨mp_, ep, fp, hlp, hep, hn6, hfp, -, -, -⟩, hP⟩, ⟨⟨mr_, er, fr_, hlr, her, hn30, hfr_, -, -, -⟩, hR⟩, ⟨ma_, ea, fa, hla, hea, hn6a, hfa, -, -, -⟩, hA⟩ := hB
  have hW := hS.1
  have hp0 := hW.p
  have hr0 := hW.r
  have ha0 := hW.a
  have he64_ : ∀ p, p < 6 → e p < 64 := fun p hp => Nat.lt_trans (he6 p hp) (by decide)
  refine jv_aload_n X dX15_finds_0 0 rfl ?_
  refine jv_dup X dX15_finds_1 rfl ?_
  refine jv_get X dX15_finds_2 ht (T := TX15) (N := 6) (C := RX15) rfl in_X15 5 (by decide) q1197 rfl rfl ?_
  refine jv_iconst (v := nI 1) X dX15_finds_5 rfl ?_
  refine jv_iadd (w := xm_ + (nI 1)) X dX15_finds_6 rfl ?_
  refine jv_put (fs' := [.ref b, .ref ma, .ref oa, .int m_, .ref sa, .int (xm_ + (nI 1))]) X dX15_finds_7 ht hft (T := TX15) (N := 6) (C := RX15) rfl in_X15 tyX15 tyX15_ok nmX15 5 (by decide) q1197 rfl rfl  rfl rfl rfl (show 5 < 6 from by decide) rfl ?_
  refine jv_iconst (v := nI 1) X dX15_finds_10 rfl ?_
  exact jv_iret (v := bI true) X dX15_finds_11 (bI_nar _) hQ (Nat.le_of_ble_eq_true rfl) (Nat.le_of_ble_eq_true rfl) ⟨rfl, rfl⟩
theorem hd_X16_finds : jv_dd yX16_finds 0 := by unfold jv_dd; decide +kernel
set_option maxHeartbeats 4000000 in
theorem c_X16_finds {l : Launch} {G : jv_G} {M : jv_M} {σ : jk_A} (hG : jk_G G σ) {B : jv_M} {τ : Nat → Nat} {b t ma oa sa : Nat} {m_ : Int32} {e : Nat → Nat} {S : Nat → Nat} (hB : jbd G B τ b S) (hS : wfS S) (hL : wfL S) (hPP : wfP S) (hse : jse 13 [] G B M S b t m_ ma oa sa e)   : jv_Ct G l yX16_finds cX16_finds 1 (some .boolean) 0 0 0 0 [.ref t] M (jv_qi G (jv_pi (bI false) M)) := by
  refine jv_Ct.of (lv := [(0, .ref t)]) (by decide) (Nat.le_of_ble_eq_true rfl) rfl ?_
  intro x Q_ hl_ hQ X
  subst hl_
  have hB0 := hB
  obtain ⟨⟨ht, hft, hnt⟩, ⟨gm, hma, hgm⟩, ⟨go, hoa, hgo⟩, ⟨gs, hsa, hgs, hfsa, hnsa⟩, he6, hms, hos, hag⟩ := id hse
  replace hB := hB.sub hag hS.1.p
  have hB_ := hB
  obtain ⟨lp, lr, la, P, R, A, hb, hfb, ⟨⟨mp_, ep, fp, hlp, hep, hn6, hfp, -, -, -⟩, hP⟩, ⟨⟨mr_, er, fr_, hlr, her, hn30, hfr_, -, -, -⟩, hR⟩, ⟨ma_, ea, fa, hla, hea, hn6a, hfa, -, -, -⟩, hA⟩ := hB
  have hW := hS.1
  have hp0 := hW.p
  have hr0 := hW.r
  have ha0 := hW.a
  have he64_ : ∀ p, p < 6 → e p < 64 := fun p hp => Nat.lt_trans (he6 p hp) (by decide)
  refine jv_iconst (v := nI 0) X dX16_finds_0 rfl ?_
  exact jv_iret (v := bI false) X dX16_finds_1 (bI_nar _) hQ (Nat.le_of_ble_eq_true rfl) (Nat.le_of_ble_eq_true rfl) ⟨rfl, rfl⟩
theorem hd_X18_finds : jv_dd yX18_finds 0 := by unfold jv_dd; decide +kernel
set_option maxHeartbeats 4000000 in
theorem c_X18_finds {l : Launch} {G : jv_G} {M : jv_M} {σ : jk_A} (hG : jk_G G σ) {B : jv_M} {τ : Nat → Nat} {b t ma oa sa : Nat} {m_ : Int32} {gp_ : Nat} {xf_ : Int32} {e : Nat → Nat} {S : Nat → Nat} (hB : jbd G B τ b S) (hS : wfS S) (hL : wfL S) (hPP : wfP S) (hse : jse 15 [.int (nI gp_), .int xf_] G B M S b t m_ ma oa sa e)  (hgp : gp_ < 6) : jv_Ct G l yX18_finds cX18_finds 1 (some .boolean) 0 0 0 0 [.ref t] M (jv_qi G (fun r M' => r = bI true ∧ M' = jv_up M t (.inr (15, [.ref b, .ref ma, .ref oa, .int m_, .ref sa, .int (nI gp_), .int (xf_ ||| nI (2 ^ e gp_))])))) := by
  refine jv_Ct.of (lv := [(0, .ref t)]) (by decide) (Nat.le_of_ble_eq_true rfl) rfl ?_
  intro x Q_ hl_ hQ X
  subst hl_
  have hB0 := hB
  obtain ⟨⟨ht, hft, hnt⟩, ⟨gm, hma, hgm⟩, ⟨go, hoa, hgo⟩, ⟨gs, hsa, hgs, hfsa, hnsa⟩, he6, hms, hos, hag⟩ := id hse
  replace hB := hB.sub hag hS.1.p
  have hB_ := hB
  obtain ⟨lp, lr, la, P, R, A, hb, hfb, ⟨⟨mp_, ep, fp, hlp, hep, hn6, hfp, -, -, -⟩, hP⟩, ⟨⟨mr_, er, fr_, hlr, her, hn30, hfr_, -, -, -⟩, hR⟩, ⟨ma_, ea, fa, hla, hea, hn6a, hfa, -, -, -⟩, hA⟩ := hB
  have hW := hS.1
  have hp0 := hW.p
  have hr0 := hW.r
  have ha0 := hW.a
  have he64_ : ∀ p, p < 6 → e p < 64 := fun p hp => Nat.lt_trans (he6 p hp) (by decide)
  refine jv_aload_n X dX18_finds_0 0 rfl ?_
  refine jv_dup X dX18_finds_1 rfl ?_
  refine jv_get X dX18_finds_2 ht (T := TX18) (N := 7) (C := RX18) rfl in_X18 6 (by decide) q1421 rfl rfl ?_
  refine jv_iconst (v := nI 1) X dX18_finds_5 rfl ?_
  refine jv_aload_n X dX18_finds_6 0 rfl ?_
  refine jv_getS X dX18_finds_7 ht (T := TX18) (N := 7) (C := RX18) rfl in_X18 4 (by decide) q1205 q1206 rfl ?_
  refine jv_aload_n X dX18_finds_10 0 rfl ?_
  skip
  refine jv_get X dX18_finds_11 ht (T := TX18) (N := 7) (C := RX18) rfl in_X18 5 (by decide) q1420 rfl rfl ?_
  refine jv_iald (v := nI (e gp_)) X dX18_finds_14 hsa (jn_in (by omega) (by decide)) (by rw [nI_clamp (by omega)]; exact (hgs _ (by omega))) ?_
  refine jv_ishl (w := nI (2 ^ (e gp_))) X dX18_finds_15 (ni_shl1 (Nat.lt_trans (he6 _ hgp) (by decide))) ?_
  refine jv_ior (w := xf_ ||| (nI (2 ^ (e gp_)))) X dX18_finds_16 rfl ?_
  refine jv_put (fs' := [.ref b, .ref ma, .ref oa, .int m_, .ref sa, .int (nI gp_), .int (xf_ ||| (nI (2 ^ (e gp_))))]) X dX18_finds_17 ht hft (T := TX18) (N := 7) (C := RX18) rfl in_X18 tyX18 tyX18_ok nmX18 6 (by decide) q1421 rfl rfl  rfl rfl rfl (show 6 < 7 from by decide) rfl ?_
  refine jv_iconst (v := nI 1) X dX18_finds_20 rfl ?_
  exact jv_iret (v := bI true) X dX18_finds_21 (bI_nar _) hQ (Nat.le_of_ble_eq_true rfl) (Nat.le_of_ble_eq_true rfl) ⟨rfl, rfl⟩
theorem hd_X14_goes : jv_dd yX14_goes 1 := by unfold jv_dd; decide +kernel
set_option maxHeartbeats 4000000 in
theorem c_X14_goes_X15_z {l : Launch} {G : jv_G} {M : jv_M} {σ : jk_A} (hG : jk_G G σ) {B : jv_M} {τ : Nat → Nat} {b t ma oa sa : Nat} {m_ : Int32} {S : Nat → Nat} (hB : jbd G B τ b S) (hS : wfS S) (hL : wfL S) (hPP : wfP S)  (Y : t_Y) (e : Nat → Nat) (c : Nat → Nat) (hse : jse 12 (xsC Y) G B M S b t m_ ma oa sa e) (hc : ∀ q, q < S 0 → e q = c q) (hY : Y.1 < 1000000) (hbd : Y.1 + 6 ^ 0 < 1000000)  : jv_Ct G l yX14_goes cX14_goes 5 (some .boolean) (0 + 40) 0 0 (34 * 0 + 1200) [.ref t, .int (nI (S 0))] M (jv_qi G (fun r M' => goP 12 xsC G B S b t m_ ma oa sa 1000000 (S 0) 0 c Y e r M')) := by
  refine jv_Ct.of (lv := [(0, .ref t), (1, .int (nI (S 0)))]) (by decide) (Nat.le_of_ble_eq_true rfl) rfl ?_
  intro x Q_ hl_ hQ X
  subst hl_
  have hB0 := hB
  obtain ⟨lp, lr, la, P, R, A, hb, hfb, ⟨⟨mp_, ep, fp, hlp, hep, hn6, hfp, -, -, -⟩, hP⟩, ⟨⟨mr_, er, fr_, hlr, her, hn30, hfr_, -, -, -⟩, hR⟩, ⟨ma_, ea, fa, hla, hea, hn6a, hfa, -, -, -⟩, hA⟩ := id hB0
  have hW := hS.1
  have hp0 := hW.p
  have hr0 := hW.r
  have ha0 := hW.a
  obtain ⟨⟨ht, hft, hnt⟩, ⟨gm, hma, hgm⟩, ⟨go, hoa, hgo⟩, ⟨gs, hsa, hgs, hfsa, hnsa⟩, he6, hms, hos, hag⟩ := id hse
  refine jv_iload_n X dX14_goes_0 1 rfl ?_
  refine jv_aload_n X dX14_goes_1 0 rfl ?_
  refine jv_get X dX14_goes_2 ht (T := TX15) (N := 6) (C := RX15) rfl in_X15 0 (by decide) q1198 rfl rfl ?_
  refine jv_getN X dX14_goes_5 (hag.c hb) (T := TX1) (N := 3) (C := RX1) rfl in_X1 0 (by decide) q181 rfl rfl ?_
  refine jv_ask (jv_runV (As := []) (rest := [.int (nI (S 0))]) X dX14_goes_8 (c_J2_size (hag.c hlp)) (lw_V q1189 q284 q285 q94 q286) hd_J2_size (hag.c hlp) rfl (by omega) (by omega) (by omega) (by omega) rfl (Nat.le_of_ble_eq_true rfl)) ?_
  refine jn_icmp_ne 34 X dX14_goes_11 (by decide) (by omega) (by omega) (fun c11 => ?_) (fun c11 => ?_)
  · skip
    exact (absurd rfl c11)
  · skip
    refine jv_aload_n X dX14_goes_14 0 rfl ?_
    refine jv_ask (jv_runU (As := []) (rest := []) X dX14_goes_15 (c_X14_areReached_X15 hG hB0 hS hL hPP hse) (jv_cuP X q1232 q2473 q1233 q1234 q122 q1235 q1176 ⟨by decide, by decide⟩ hd_X14_areReached (by omega) (by omega)) ht (show jv_cl[12]? = some (RX15, TX15, 6) from rfl) (by omega) (by omega) rfl (Nat.le_of_ble_eq_true rfl)) ?_
    refine jb_if_eq 28 X dX14_goes_18 (by decide) (fun c18 => ?_) (fun c18 => ?_)
    · skip
      refine jv_iconst (v := nI 1) X dX14_goes_28 rfl ?_
      refine jv_goto 33 X dX14_goes_29 (by decide) ?_
      exact jv_iret (v := bI true) X dX14_goes_33 (bI_nar _) hQ (Nat.le_of_ble_eq_true rfl) (Nat.le_of_ble_eq_true rfl) (by unfold goP; have hT_ : triF S m_ 1000000 0 c Y = Y := (if_neg (by rw [unr_c hS (c' := e) (fun q hq => (hc q hq).symm)]; exact of_decide_eq_false c18)); rw [hT_]; exact ⟨congrArg bI (decide_eq_true hY).symm, e, hse, fun _ _ => rfl, fun z => absurd hY z⟩)
    · skip
      refine jv_aload_n X dX14_goes_21 0 rfl ?_
      refine jv_calli (jv_runU (As := []) (rest := []) X dX14_goes_22 (c_X15_finds hG hB0 hS hL hPP hse) (jv_cuA X (lw_U (x := yA_Search_finds) q1278 q1280 q1281 q1282 q123 q1283) q1279 ⟨by decide, by decide⟩ hd_yA_Search_finds (by omega) (by omega)) ht (show jv_cl[12]? = some (RX15, TX15, 6) from rfl) (by omega) (by omega) rfl (Nat.le_of_ble_eq_true rfl)) (fun rr_ M2_ h_ => ?_)
      obtain ⟨hr_, hm_⟩ := h_
      rw [hr_, hm_]
      clear hr_ hm_
      refine jb_if_eq 32 X dX14_goes_25 (by decide) (fun c25 => ?_) (fun c25 => ?_)
      · skip
        exact (absurd c25 (by decide))
      · skip
        refine jv_iconst (v := nI 1) X dX14_goes_28 rfl ?_
        refine jv_goto 33 X dX14_goes_29 (by decide) ?_
        exact jv_iret (v := bI true) X dX14_goes_33 (bI_nar _) hQ (Nat.le_of_ble_eq_true rfl) (Nat.le_of_ble_eq_true rfl) (by unfold goP; have hT_ : triF S m_ 1000000 0 c Y = lfY c Y := (if_pos (by rw [unr_c hS (c' := e) (fun q hq => (hc q hq).symm)]; exact of_decide_eq_true c18)); rw [hT_]; exact ⟨congrArg bI (decide_eq_true (show Y.1 + 1 < 1000000 by omega)).symm, e, (by rw [show xsC (lfY c Y) = [.int (nI Y.1 + nI 1)] by unfold xsC lfY; rw [nI_add]]; exact hse.upT (by decide)), fun _ _ => rfl, fun z => absurd (show Y.1 + 1 < 1000000 by omega) z⟩)
set_option maxHeartbeats 4000000 in
theorem c_X14_goes_X15_s {l : Launch} {G : jv_G} {M : jv_M} {σ : jk_A} (hG : jk_G G σ) {B : jv_M} {τ : Nat → Nat} {b t ma oa sa : Nat} {m_ : Int32} {S : Nat → Nat} (hB : jbd G B τ b S) (hS : wfS S) (hL : wfL S) (hPP : wfP S)  (d : Nat) (p : Nat) (Y : t_Y) (e : Nat → Nat) (c : Nat → Nat) (hpd : p + (d + 1) = S 0) (hse : jse 12 (xsC Y) G B M S b t m_ ma oa sa e) (hc : ∀ q, q < p → e q = c q) (hY : Y.1 < 1000000) (hbd : Y.1 + 6 ^ (d + 1) < 1000000) (IH : ∀ (M : jv_M) (e c : Nat → Nat) (Y : t_Y), jse 12 (xsC Y) G B M S b t m_ ma oa sa e → (∀ q, q < p + 1 → e q = c q) → Y.1 < 1000000 → Y.1 + 6 ^ d < 1000000 → jv_Ct G l yX14_goes cX14_goes 5 (some .boolean) (d + 40) 0 0 (34 * d + 1200) [.ref t, .int (nI (p + 1))] M (jv_qi G (goP 12 xsC G B S b t m_ ma oa sa 1000000 (p + 1) d c Y e)))  : jv_Ct G l yX14_goes cX14_goes 5 (some .boolean) ((d + 1) + 40) 0 0 (34 * (d + 1) + 1200) [.ref t, .int (nI p)] M (jv_qi G (fun r M' => goP 12 xsC G B S b t m_ ma oa sa 1000000 p (d + 1) c Y e r M')) := by
  refine jv_Ct.of (lv := [(0, .ref t), (1, .int (nI p))]) (by decide) (Nat.le_of_ble_eq_true rfl) rfl ?_
  intro x Q_ hl_ hQ X
  subst hl_
  have hB0 := hB
  obtain ⟨lp, lr, la, P, R, A, hb, hfb, ⟨⟨mp_, ep, fp, hlp, hep, hn6, hfp, -, -, -⟩, hP⟩, ⟨⟨mr_, er, fr_, hlr, her, hn30, hfr_, -, -, -⟩, hR⟩, ⟨ma_, ea, fa, hla, hea, hn6a, hfa, -, -, -⟩, hA⟩ := id hB0
  have hW := hS.1
  have hp0 := hW.p
  have hr0 := hW.r
  have ha0 := hW.a
  obtain ⟨⟨ht, hft, hnt⟩, ⟨gm, hma, hgm⟩, ⟨go, hoa, hgo⟩, ⟨gs, hsa, hgs, hfsa, hnsa⟩, he6, hms, hos, hag⟩ := id hse
  have hpS_ : p < S 0 := by omega
  have hpd_ : S 0 - (d + 1) = p := by omega
  refine jv_iload_n X dX14_goes_0 1 rfl ?_
  refine jv_aload_n X dX14_goes_1 0 rfl ?_
  refine jv_get X dX14_goes_2 ht (T := TX15) (N := 6) (C := RX15) rfl in_X15 0 (by decide) q1198 rfl rfl ?_
  refine jv_getN X dX14_goes_5 (hag.c hb) (T := TX1) (N := 3) (C := RX1) rfl in_X1 0 (by decide) q181 rfl rfl ?_
  refine jv_ask (jv_runV (As := []) (rest := [.int (nI p)]) X dX14_goes_8 (c_J2_size (hag.c hlp)) (lw_V q1189 q284 q285 q94 q286) hd_J2_size (hag.c hlp) rfl (by omega) (by omega) (by omega) (by omega) rfl (Nat.le_of_ble_eq_true rfl)) ?_
  refine jn_icmp_ne 34 X dX14_goes_11 (by decide) (by omega) (by omega) (fun c11 => ?_) (fun c11 => ?_)
  · skip
    refine jv_aload_n X dX14_goes_34 0 rfl ?_
    refine jv_get X dX14_goes_35 ht (T := TX15) (N := 6) (C := RX15) rfl in_X15 0 (by decide) q1198 rfl rfl ?_
    refine jv_getN X dX14_goes_38 (hag.c hb) (T := TX1) (N := 3) (C := RX1) rfl in_X1 0 (by decide) q181 rfl rfl ?_
    refine jv_iload_n X dX14_goes_41 1 rfl ?_
    refine jv_callr (jv_runV (As := [.int (nI p)]) (rest := []) X dX14_goes_42 (c_J2_get (hag.c hlp) (hag.c hep) p (P p) (by omega) (by omega) (by omega) (by rw [hfp _ (by omega)]; rfl)) (lw_V q1190 q533 q534 q94 q535) hd_J2_get (hag.c hlp) rfl (by omega) (by omega) (by omega) (by omega) rfl (Nat.le_of_ble_eq_true rfl)) (fun rr_ M_ h_ => ?_)
    obtain ⟨hr_, hm_⟩ := h_
    rw [hr_, hm_]
    clear hr_ hm_
    obtain ⟨lv_2, V_2, hpk_2, -, ⟨mv_2, ev_2, fv_2, hlv_2, hev_2, hnv_2, hfv_2, -, -, -⟩, hvv_2⟩ := hP p (by omega)
    have hnv5_2 := hW.nv (show p < 6 by omega)
    refine jv_castS X dX14_goes_45 (hag.c hpk_2) (r := (RX3, TX3, 2)) rfl q1191 ?_
    refine jv_getN X dX14_goes_48 (hag.c hpk_2) (T := TX3) (N := 2) (C := RX3) rfl in_X3 0 (by decide) q353 rfl rfl ?_
    refine jv_ask (jv_runV (As := []) (rest := []) X dX14_goes_51 (c_J2_size (hag.c hlv_2)) (lw_V q1189 q284 q285 q94 q286) hd_J2_size (hag.c hlv_2) rfl (by omega) (by omega) (by omega) (by omega) rfl (Nat.le_of_ble_eq_true rfl)) ?_
    refine jv_istore_n (lv' := [(2, .int (nI (v_of S p 0))), (0, .ref t), (1, .int (nI p))]) X dX14_goes_54 rfl (by decide) rfl ?_
    refine jv_iconst (v := nI 1) X dX14_goes_55 rfl ?_
    refine jv_istore_n (lv' := [(3, .int (nI 1)), (2, .int (nI (v_of S p 0))), (0, .ref t), (1, .int (nI p))]) X dX14_goes_56 rfl (by decide) rfl ?_
    refine jv_iconst (v := nI 0) X dX14_goes_57 rfl ?_
    refine jv_istore (lv' := [(4, .int (nI 0)), (3, .int (nI 1)), (2, .int (nI (v_of S p 0))), (0, .ref t), (1, .int (nI p))]) X dX14_goes_58 (by decide) rfl ?_
    have lp60_3 : ∀ (d_60 : Nat) (k : Nat) (g : Bool) (ei : Nat → Nat) (Yi : t_Y) (Mi : jv_M), k ≤ v_of S p 0 + 1 → jse 12 (xsC Yi) G B Mi S b t m_ ma oa sa ei → (∀ q, q < p → ei q = e q) → triF S m_ 1000000 (d + 1) c Y = triL (fun k Y => if fit_ S m_ p (up2 c p (rk S p k)) = true then triF S m_ 1000000 d (up2 c p (rk S p k)) Y else Y) 1000000 (v_of S p 0 + 1 - k) k Yi → g = decide (Yi.1 < 1000000) → (¬ Yi.1 < 1000000 → ∀ q, q < S 0 → ei q = Yi.2.1 q) → Yi.1 ≤ Y.1 + k * 6 ^ d → v_of S p 0 + 1 - k < d_60 → jv_J x G 5 Q_ Mi 0 0 60 [(0, .ref t), (1, .int (nI p)), (2, .int (nI (v_of S p 0))), (3, .int (bI g)), (4, .int (nI k))] [] := by
      intro d_60
      induction d_60 with
      | zero => intro k g ei Yi Mi hkn hsi hei hYi hgi hdi hbi hm_60; exact absurd hm_60 (Nat.not_lt_zero _)
      | succ d_60 ih_60 =>
        intro k g ei Yi Mi hkn hsi hei hYi hgi hdi hbi hm_60
        obtain ⟨⟨hti, hfti, hnti⟩, ⟨gmi, hmai, hgmi⟩, ⟨goi, hoai, hgoi⟩, ⟨gsi, hsai, hgsi, hfsai, hnsai⟩, he6i, hmsi, hosi, hagi⟩ := id hsi
        refine jv_iload X dX14_goes_60 4 rfl ?_
        refine jv_iload_n X dX14_goes_62 2 rfl ?_
        refine jn_icmp_gt 118 X dX14_goes_63 (by decide) (by omega) (by omega) (fun c63 => ?_) (fun c63 => ?_)
        · skip
          refine jv_iload_n X dX14_goes_118 3 rfl ?_
          exact jv_iret (v := bI g) X dX14_goes_119 (bI_nar _) hQ (Nat.le_of_ble_eq_true rfl) (Nat.le_of_ble_eq_true rfl) (by unfold goP; have hT_ : triF S m_ 1000000 (d + 1) c Y = Yi := (hYi.trans (by rw [show v_of S p 0 + 1 - k = 0 by omega]; rfl)); rw [hT_]; exact ⟨congrArg bI hgi, ei, hsi, hei, hdi⟩)
        · skip
          refine jv_iload_n X dX14_goes_66 3 rfl ?_
          refine jb_if_eq 118 X dX14_goes_67 (by decide) (fun c67 => ?_) (fun c67 => ?_)
          · skip
            refine jv_iload_n X dX14_goes_118 3 rfl ?_
            exact jv_iret (v := bI g) X dX14_goes_119 (bI_nar _) hQ (Nat.le_of_ble_eq_true rfl) (Nat.le_of_ble_eq_true rfl) (by unfold goP; have hT_ : triF S m_ 1000000 (d + 1) c Y = Yi := (hYi.trans (triL_stp (fun z => by rw [hgi, decide_eq_true z] at c67; cases c67) _ _)); rw [hT_]; exact ⟨congrArg bI hgi, ei, hsi, hei, hdi⟩)
          · skip
            have hlt_ : Yi.1 < 1000000 := of_decide_eq_true (hgi.symm.trans c67)
            have hb2_ : Yi.1 + 6 ^ d < 1000000 := by
                have h1 : k * 6 ^ d ≤ 5 * 6 ^ d := Nat.mul_le_mul_right _ (by omega)
                rw [Nat.pow_succ] at hbd
                omega
            refine jv_aload_n X dX14_goes_70 0 rfl ?_
            refine jv_get X dX14_goes_71 hti (T := TX15) (N := 6) (C := RX15) rfl in_X15 4 (by decide) q1202 rfl rfl ?_
            refine jv_iload_n X dX14_goes_74 1 rfl ?_
            refine jv_aload_n X dX14_goes_75 0 rfl ?_
            refine jv_get X dX14_goes_76 hti (T := TX15) (N := 6) (C := RX15) rfl in_X15 2 (by decide) q1200 rfl rfl ?_
            refine jv_bipush (v := nI 6) X dX14_goes_79 rfl ?_
            refine jv_iload_n X dX14_goes_81 1 rfl ?_
            refine jv_imul (w := nI (6 * p)) X dX14_goes_82 (pk_mul _ _) ?_
            refine jv_iload X dX14_goes_83 4 rfl ?_
            refine jv_iadd (w := nI ((6 * p) + k)) X dX14_goes_85 (nI_add _ _) ?_
            refine jv_iald (v := nI (rk S p k)) X dX14_goes_86 hoai (jn_in (by omega) (by decide)) (by rw [nI_clamp (by omega)]; exact (hgoi p k (by omega) (by omega))) ?_
            refine jv_iast (g := upd gsi p (nI (rk S p k))) X dX14_goes_87 hsai hfsai (jn_in (by omega) (by decide)) (by rw [nI_clamp (by omega)]) ?_
            have hs2_ := hsi.upS (by decide) hsai (p := p) (v := rk S p k) (Nat.lt_succ_of_le (rk_le hW (by omega)))
            obtain ⟨M2_, hM2_⟩ : ∃ M2, M2 = (jv_up Mi sa (.inl (G.2.2.1 0, 6, .inl (upd gsi p (nI (rk S p k)))))) := ⟨_, rfl⟩
            rw [← hM2_] at hs2_ ⊢
            obtain ⟨⟨ht2, hft2, hnt2⟩, ⟨gm2, hma2, hgm2⟩, ⟨go2, hoa2, hgo2⟩, ⟨gs2, hsa2, hgs2, hfsa2, hnsa2⟩, he62, hms2, hos2, hag2⟩ := id hs2_
            have hc2_ : ∀ q, q < p + 1 → (up2 ei p (rk S p k)) q = (up2 c p (rk S p k)) q := fun q hq => by
                unfold up2
                by_cases z : q = p
                · rw [if_pos z, if_pos z]
                · rw [if_neg z, if_neg z, hei q (by omega)]; exact hc q (by omega)
            have hfe_ : fit_ S m_ p (up2 c p (rk S p k)) = fit_ S m_ p (up2 ei p (rk S p k)) := fit_c hW (fun q hq => (hc2_ q (by omega)).symm)
            refine jv_aload_n X dX14_goes_88 0 rfl ?_
            refine jv_iload_n X dX14_goes_89 1 rfl ?_
            refine jv_ask (jv_runU (As := [.int (nI p)]) (rest := []) X dX14_goes_90 (c_X14_isAllowed_X15 hG hB0 hS hL hPP hs2_ p hpS_) (jv_cuP X q1293 q2475 q1294 q1295 q122 q1296 q1176 ⟨by decide, by decide⟩ hd_X14_isAllowed (by omega) (by omega)) ht2 (show jv_cl[12]? = some (RX15, TX15, 6) from rfl) (by omega) (by omega) rfl (Nat.le_of_ble_eq_true rfl)) ?_
            refine jb_if_eq 106 X dX14_goes_93 (by decide) (fun c93 => ?_) (fun c93 => ?_)
            · skip
              refine jv_iconst (v := nI 1) X dX14_goes_106 rfl ?_
              refine jv_goto 111 X dX14_goes_107 (by decide) ?_
              refine jv_istore_n (lv' := [(3, .int (nI 1)), (0, .ref t), (1, .int (nI p)), (2, .int (nI (v_of S p 0))), (4, .int (nI k))]) X dX14_goes_111 rfl (by decide) rfl ?_
              refine jv_iinc (v := nI (k + 1)) (lv' := [(4, .int (nI (k + 1))), (3, .int (nI 1)), (0, .ref t), (1, .int (nI p)), (2, .int (nI (v_of S p 0)))]) X dX14_goes_112 4 rfl (nI_1 _) (by decide) rfl ?_
              refine jv_goto 60 X dX14_goes_115 (by decide) ?_
              refine jv_lv (lv' := [(0, .ref t), (1, .int (nI p)), (2, .int (nI (v_of S p 0))), (3, .int (nI 1)), (4, .int (nI (k + 1)))]) [2, 3, 4, 1, 0] rfl ?_
              exact ih_60 (k + 1) true (up2 ei p (rk S p k)) Yi M2_ (by omega) hs2_ (fun q hq => (up2_o (show q ≠ p by omega)).trans (hei q hq)) (hYi.trans (by rw [show v_of S p 0 + 1 - (k + 1) = v_of S p 0 + 1 - k - 1 by omega, triL_s (by omega), if_pos hlt_]; show triL _ _ _ _ (if fit_ S m_ p (up2 c p (rk S p k)) = true then _ else Yi) = _; rw [if_neg (by rw [hfe_, c93]; decide)])) (decide_eq_true hlt_).symm (fun z => absurd hlt_ z) (Nat.le_trans hbi (Nat.add_le_add_left (Nat.mul_le_mul_right _ (Nat.le_succ k)) _)) (by omega)
            · skip
              refine jv_aload_n X dX14_goes_96 0 rfl ?_
              refine jv_iload_n X dX14_goes_97 1 rfl ?_
              refine jv_iconst (v := nI 1) X dX14_goes_98 rfl ?_
              refine jv_iadd (w := nI (p + 1)) X dX14_goes_99 (nI_add _ _) ?_
              refine jv_calli (jv_runU (As := [.int (nI (p + 1))]) (rest := []) X dX14_goes_100 (IH M2_ (up2 ei p (rk S p k)) (up2 c p (rk S p k)) Yi hs2_ hc2_ hlt_ hb2_) (jv_cuI X (lw_U (x := yX14_goes) q1327 q2476 q2477 q1230 q122 q1231) rfl ⟨by decide, by decide⟩ hd_X14_goes (by omega) (by omega)) ht2 (show jv_cl[12]? = some (RX15, TX15, 6) from rfl) (by omega) (by omega) rfl (Nat.le_of_ble_eq_true rfl)) (fun rr_ M3_ h_ => ?_)
              obtain ⟨hr_, e3_, hs3_, he3_, hd3_⟩ := h_
              rw [hr_]
              clear hr_
              obtain ⟨⟨ht3, hft3, hnt3⟩, ⟨gm3, hma3, hgm3⟩, ⟨go3, hoa3, hgo3⟩, ⟨gs3, hsa3, hgs3, hfsa3, hnsa3⟩, he63, hms3, hos3, hag3⟩ := id hs3_
              refine jb_if_eq 110 X dX14_goes_103 (by decide) (fun c103 => ?_) (fun c103 => ?_)
              · skip
                refine jv_iconst (v := nI 0) X dX14_goes_110 rfl ?_
                refine jv_istore_n (lv' := [(3, .int (nI 0)), (0, .ref t), (1, .int (nI p)), (2, .int (nI (v_of S p 0))), (4, .int (nI k))]) X dX14_goes_111 rfl (by decide) rfl ?_
                refine jv_iinc (v := nI (k + 1)) (lv' := [(4, .int (nI (k + 1))), (3, .int (nI 0)), (0, .ref t), (1, .int (nI p)), (2, .int (nI (v_of S p 0)))]) X dX14_goes_112 4 rfl (nI_1 _) (by decide) rfl ?_
                refine jv_goto 60 X dX14_goes_115 (by decide) ?_
                refine jv_lv (lv' := [(0, .ref t), (1, .int (nI p)), (2, .int (nI (v_of S p 0))), (3, .int (nI 0)), (4, .int (nI (k + 1)))]) [2, 3, 4, 1, 0] rfl ?_
                exact ih_60 (k + 1) false e3_ (triF S m_ 1000000 d (up2 c p (rk S p k)) Yi) M3_ (by omega) hs3_ (fun q hq => (he3_ q (by omega)).trans ((up2_o (show q ≠ p by omega)).trans (hei q hq))) (hYi.trans (by rw [show v_of S p 0 + 1 - (k + 1) = v_of S p 0 + 1 - k - 1 by omega, triL_s (by omega), if_pos hlt_]; show triL _ _ _ _ (if fit_ S m_ p (up2 c p (rk S p k)) = true then _ else Yi) = _; rw [if_pos (hfe_.trans c93)])) c103.symm hd3_ (by have h9 := triF_bd hW (m := m_) (most := 1000000) d (up2 c p (rk S p k)) Yi (by omega); rw [Nat.add_mul, Nat.one_mul]; omega) (by omega)
              · skip
                refine jv_iconst (v := nI 1) X dX14_goes_106 rfl ?_
                refine jv_goto 111 X dX14_goes_107 (by decide) ?_
                refine jv_istore_n (lv' := [(3, .int (nI 1)), (0, .ref t), (1, .int (nI p)), (2, .int (nI (v_of S p 0))), (4, .int (nI k))]) X dX14_goes_111 rfl (by decide) rfl ?_
                refine jv_iinc (v := nI (k + 1)) (lv' := [(4, .int (nI (k + 1))), (3, .int (nI 1)), (0, .ref t), (1, .int (nI p)), (2, .int (nI (v_of S p 0)))]) X dX14_goes_112 4 rfl (nI_1 _) (by decide) rfl ?_
                refine jv_goto 60 X dX14_goes_115 (by decide) ?_
                refine jv_lv (lv' := [(0, .ref t), (1, .int (nI p)), (2, .int (nI (v_of S p 0))), (3, .int (nI 1)), (4, .int (nI (k + 1)))]) [2, 3, 4, 1, 0] rfl ?_
                exact ih_60 (k + 1) true e3_ (triF S m_ 1000000 d (up2 c p (rk S p k)) Yi) M3_ (by omega) hs3_ (fun q hq => (he3_ q (by omega)).trans ((up2_o (show q ≠ p by omega)).trans (hei q hq))) (hYi.trans (by rw [show v_of S p 0 + 1 - (k + 1) = v_of S p 0 + 1 - k - 1 by omega, triL_s (by omega), if_pos hlt_]; show triL _ _ _ _ (if fit_ S m_ p (up2 c p (rk S p k)) = true then _ else Yi) = _; rw [if_pos (hfe_.trans c93)])) c103.symm hd3_ (by have h9 := triF_bd hW (m := m_) (most := 1000000) d (up2 c p (rk S p k)) Yi (by omega); rw [Nat.add_mul, Nat.one_mul]; omega) (by omega)
    refine jv_lv (lv' := [(0, .ref t), (1, .int (nI p)), (2, .int (nI (v_of S p 0))), (3, .int (nI 1)), (4, .int (nI 0))]) [3, 4, 2, 1, 0] rfl ?_
    exact lp60_3 (v_of S p 0 + 1 + 1) 0 true e Y M (Nat.zero_le _) hse (fun _ _ => rfl) (by rw [← hpd_]; rfl) (decide_eq_true hY).symm (fun z => absurd hY z) (Nat.le_add_right _ _) (by omega)
  · skip
    exact (absurd c11 (by omega))
theorem c_X14_goes_X15 {l : Launch} {G : jv_G} {σ : jk_A} (hG : jk_G G σ) {B : jv_M} {τ : Nat → Nat} {b t ma oa sa : Nat} {m_ : Int32} {S : Nat → Nat} (hB : jbd G B τ b S) (hS : wfS S) (hL : wfL S) (hPP : wfP S)  : ∀ (d p : Nat), p + d = S 0 → ∀ (M : jv_M) (e c : Nat → Nat) (Y : t_Y), jse 12 (xsC Y) G B M S b t m_ ma oa sa e → (∀ q, q < p → e q = c q) → Y.1 < 1000000 → Y.1 + 6 ^ d < 1000000 → jv_Ct G l yX14_goes cX14_goes 5 (some .boolean) (d + 40) 0 0 (34 * d + 1200) [.ref t, .int (nI p)] M (jv_qi G (goP 12 xsC G B S b t m_ ma oa sa 1000000 p d c Y e))
  | 0, p, hp, M, e, c, Y, hse, hc, hY, hbd => by
    have hp2 : p = S 0 := hp
    subst hp2
    exact c_X14_goes_X15_z hG hB hS hL hPP Y e c hse hc hY hbd
  | d + 1, p, hp, M, e, c, Y, hse, hc, hY, hbd => c_X14_goes_X15_s hG hB hS hL hPP d p Y e c hp hse hc hY hbd (fun M e c Y h1 h2 h3 h4 => c_X14_goes_X15 hG hB hS hL hPP d (p + 1) (by omega) M e c Y h1 h2 h3 h4)
set_option maxHeartbeats 4000000 in
theorem c_X14_goes_X16_z {l : Launch} {G : jv_G} {M : jv_M} {σ : jk_A} (hG : jk_G G σ) {B : jv_M} {τ : Nat → Nat} {b t ma oa sa : Nat} {m_ : Int32} {S : Nat → Nat} (hB : jbd G B τ b S) (hS : wfS S) (hL : wfL S) (hPP : wfP S)  (Y : t_Y) (e : Nat → Nat) (c : Nat → Nat) (hse : jse 13 (xsF Y) G B M S b t m_ ma oa sa e) (hc : ∀ q, q < S 0 → e q = c q) (hY : Y.1 < 1)  : jv_Ct G l yX14_goes cX14_goes 5 (some .boolean) (0 + 40) 0 0 (34 * 0 + 1200) [.ref t, .int (nI (S 0))] M (jv_qi G (fun r M' => goP 13 xsF G B S b t m_ ma oa sa 1 (S 0) 0 c Y e r M')) := by
  refine jv_Ct.of (lv := [(0, .ref t), (1, .int (nI (S 0)))]) (by decide) (Nat.le_of_ble_eq_true rfl) rfl ?_
  intro x Q_ hl_ hQ X
  subst hl_
  have hB0 := hB
  obtain ⟨lp, lr, la, P, R, A, hb, hfb, ⟨⟨mp_, ep, fp, hlp, hep, hn6, hfp, -, -, -⟩, hP⟩, ⟨⟨mr_, er, fr_, hlr, her, hn30, hfr_, -, -, -⟩, hR⟩, ⟨ma_, ea, fa, hla, hea, hn6a, hfa, -, -, -⟩, hA⟩ := id hB0
  have hW := hS.1
  have hp0 := hW.p
  have hr0 := hW.r
  have ha0 := hW.a
  obtain ⟨⟨ht, hft, hnt⟩, ⟨gm, hma, hgm⟩, ⟨go, hoa, hgo⟩, ⟨gs, hsa, hgs, hfsa, hnsa⟩, he6, hms, hos, hag⟩ := id hse
  refine jv_iload_n X dX14_goes_0 1 rfl ?_
  refine jv_aload_n X dX14_goes_1 0 rfl ?_
  refine jv_get X dX14_goes_2 ht (T := TX16) (N := 5) (C := RX16) rfl in_X16 0 (by decide) q1198 rfl rfl ?_
  refine jv_getN X dX14_goes_5 (hag.c hb) (T := TX1) (N := 3) (C := RX1) rfl in_X1 0 (by decide) q181 rfl rfl ?_
  refine jv_ask (jv_runV (As := []) (rest := [.int (nI (S 0))]) X dX14_goes_8 (c_J2_size (hag.c hlp)) (lw_V q1189 q284 q285 q94 q286) hd_J2_size (hag.c hlp) rfl (by omega) (by omega) (by omega) (by omega) rfl (Nat.le_of_ble_eq_true rfl)) ?_
  refine jn_icmp_ne 34 X dX14_goes_11 (by decide) (by omega) (by omega) (fun c11 => ?_) (fun c11 => ?_)
  · skip
    exact (absurd rfl c11)
  · skip
    refine jv_aload_n X dX14_goes_14 0 rfl ?_
    refine jv_ask (jv_runU (As := []) (rest := []) X dX14_goes_15 (c_X14_areReached_X16 hG hB0 hS hL hPP hse) (jv_cuP X q1232 q2473 q1233 q1234 q122 q1235 q1333 ⟨by decide, by decide⟩ hd_X14_areReached (by omega) (by omega)) ht (show jv_cl[13]? = some (RX16, TX16, 5) from rfl) (by omega) (by omega) rfl (Nat.le_of_ble_eq_true rfl)) ?_
    refine jb_if_eq 28 X dX14_goes_18 (by decide) (fun c18 => ?_) (fun c18 => ?_)
    · skip
      refine jv_iconst (v := nI 1) X dX14_goes_28 rfl ?_
      refine jv_goto 33 X dX14_goes_29 (by decide) ?_
      exact jv_iret (v := bI true) X dX14_goes_33 (bI_nar _) hQ (Nat.le_of_ble_eq_true rfl) (Nat.le_of_ble_eq_true rfl) (by unfold goP; have hT_ : triF S m_ 1 0 c Y = Y := (if_neg (by rw [unr_c hS (c' := e) (fun q hq => (hc q hq).symm)]; exact of_decide_eq_false c18)); rw [hT_]; exact ⟨congrArg bI (decide_eq_true hY).symm, e, hse, fun _ _ => rfl, fun z => absurd hY z⟩)
    · skip
      refine jv_aload_n X dX14_goes_21 0 rfl ?_
      refine jv_ask (jv_runU (As := []) (rest := []) X dX14_goes_22 (c_X16_finds hG hB0 hS hL hPP hse) (jv_cuA X (lw_U (x := yA_Search_finds) q1278 q1280 q1284 q1285 q124 q1286) q1279 ⟨by decide, by decide⟩ hd_yA_Search_finds (by omega) (by omega)) ht (show jv_cl[13]? = some (RX16, TX16, 5) from rfl) (by omega) (by omega) rfl (Nat.le_of_ble_eq_true rfl)) ?_
      refine jb_if_eq 32 X dX14_goes_25 (by decide) (fun c25 => ?_) (fun c25 => ?_)
      · skip
        refine jv_iconst (v := nI 0) X dX14_goes_32 rfl ?_
        exact jv_iret (v := bI false) X dX14_goes_33 (bI_nar _) hQ (Nat.le_of_ble_eq_true rfl) (Nat.le_of_ble_eq_true rfl) (by unfold goP; have hT_ : triF S m_ 1 0 c Y = lfY c Y := (if_pos (by rw [unr_c hS (c' := e) (fun q hq => (hc q hq).symm)]; exact of_decide_eq_true c18)); rw [hT_]; exact ⟨congrArg bI (decide_eq_false (by show ¬ Y.1 + 1 < 1; omega)).symm, e, hse, fun _ _ => rfl, fun _ q hq => (show e q = (if Y.1 = 0 then c else Y.2.1) q by rw [if_pos (show Y.1 = 0 by omega)]; exact hc q hq)⟩)
      · skip
        exact (absurd c25 (by decide))
set_option maxHeartbeats 4000000 in
theorem c_X14_goes_X16_s {l : Launch} {G : jv_G} {M : jv_M} {σ : jk_A} (hG : jk_G G σ) {B : jv_M} {τ : Nat → Nat} {b t ma oa sa : Nat} {m_ : Int32} {S : Nat → Nat} (hB : jbd G B τ b S) (hS : wfS S) (hL : wfL S) (hPP : wfP S)  (d : Nat) (p : Nat) (Y : t_Y) (e : Nat → Nat) (c : Nat → Nat) (hpd : p + (d + 1) = S 0) (hse : jse 13 (xsF Y) G B M S b t m_ ma oa sa e) (hc : ∀ q, q < p → e q = c q) (hY : Y.1 < 1) (IH : ∀ (M : jv_M) (e c : Nat → Nat) (Y : t_Y), jse 13 (xsF Y) G B M S b t m_ ma oa sa e → (∀ q, q < p + 1 → e q = c q) → Y.1 < 1 → jv_Ct G l yX14_goes cX14_goes 5 (some .boolean) (d + 40) 0 0 (34 * d + 1200) [.ref t, .int (nI (p + 1))] M (jv_qi G (goP 13 xsF G B S b t m_ ma oa sa 1 (p + 1) d c Y e)))  : jv_Ct G l yX14_goes cX14_goes 5 (some .boolean) ((d + 1) + 40) 0 0 (34 * (d + 1) + 1200) [.ref t, .int (nI p)] M (jv_qi G (fun r M' => goP 13 xsF G B S b t m_ ma oa sa 1 p (d + 1) c Y e r M')) := by
  refine jv_Ct.of (lv := [(0, .ref t), (1, .int (nI p))]) (by decide) (Nat.le_of_ble_eq_true rfl) rfl ?_
  intro x Q_ hl_ hQ X
  subst hl_
  have hB0 := hB
  obtain ⟨lp, lr, la, P, R, A, hb, hfb, ⟨⟨mp_, ep, fp, hlp, hep, hn6, hfp, -, -, -⟩, hP⟩, ⟨⟨mr_, er, fr_, hlr, her, hn30, hfr_, -, -, -⟩, hR⟩, ⟨ma_, ea, fa, hla, hea, hn6a, hfa, -, -, -⟩, hA⟩ := id hB0
  have hW := hS.1
  have hp0 := hW.p
  have hr0 := hW.r
  have ha0 := hW.a
  obtain ⟨⟨ht, hft, hnt⟩, ⟨gm, hma, hgm⟩, ⟨go, hoa, hgo⟩, ⟨gs, hsa, hgs, hfsa, hnsa⟩, he6, hms, hos, hag⟩ := id hse
  have hpS_ : p < S 0 := by omega
  have hpd_ : S 0 - (d + 1) = p := by omega
  refine jv_iload_n X dX14_goes_0 1 rfl ?_
  refine jv_aload_n X dX14_goes_1 0 rfl ?_
  refine jv_get X dX14_goes_2 ht (T := TX16) (N := 5) (C := RX16) rfl in_X16 0 (by decide) q1198 rfl rfl ?_
  refine jv_getN X dX14_goes_5 (hag.c hb) (T := TX1) (N := 3) (C := RX1) rfl in_X1 0 (by decide) q181 rfl rfl ?_
  refine jv_ask (jv_runV (As := []) (rest := [.int (nI p)]) X dX14_goes_8 (c_J2_size (hag.c hlp)) (lw_V q1189 q284 q285 q94 q286) hd_J2_size (hag.c hlp) rfl (by omega) (by omega) (by omega) (by omega) rfl (Nat.le_of_ble_eq_true rfl)) ?_
  refine jn_icmp_ne 34 X dX14_goes_11 (by decide) (by omega) (by omega) (fun c11 => ?_) (fun c11 => ?_)
  · skip
    refine jv_aload_n X dX14_goes_34 0 rfl ?_
    refine jv_get X dX14_goes_35 ht (T := TX16) (N := 5) (C := RX16) rfl in_X16 0 (by decide) q1198 rfl rfl ?_
    refine jv_getN X dX14_goes_38 (hag.c hb) (T := TX1) (N := 3) (C := RX1) rfl in_X1 0 (by decide) q181 rfl rfl ?_
    refine jv_iload_n X dX14_goes_41 1 rfl ?_
    refine jv_callr (jv_runV (As := [.int (nI p)]) (rest := []) X dX14_goes_42 (c_J2_get (hag.c hlp) (hag.c hep) p (P p) (by omega) (by omega) (by omega) (by rw [hfp _ (by omega)]; rfl)) (lw_V q1190 q533 q534 q94 q535) hd_J2_get (hag.c hlp) rfl (by omega) (by omega) (by omega) (by omega) rfl (Nat.le_of_ble_eq_true rfl)) (fun rr_ M_ h_ => ?_)
    obtain ⟨hr_, hm_⟩ := h_
    rw [hr_, hm_]
    clear hr_ hm_
    obtain ⟨lv_2, V_2, hpk_2, -, ⟨mv_2, ev_2, fv_2, hlv_2, hev_2, hnv_2, hfv_2, -, -, -⟩, hvv_2⟩ := hP p (by omega)
    have hnv5_2 := hW.nv (show p < 6 by omega)
    refine jv_castS X dX14_goes_45 (hag.c hpk_2) (r := (RX3, TX3, 2)) rfl q1191 ?_
    refine jv_getN X dX14_goes_48 (hag.c hpk_2) (T := TX3) (N := 2) (C := RX3) rfl in_X3 0 (by decide) q353 rfl rfl ?_
    refine jv_ask (jv_runV (As := []) (rest := []) X dX14_goes_51 (c_J2_size (hag.c hlv_2)) (lw_V q1189 q284 q285 q94 q286) hd_J2_size (hag.c hlv_2) rfl (by omega) (by omega) (by omega) (by omega) rfl (Nat.le_of_ble_eq_true rfl)) ?_
    refine jv_istore_n (lv' := [(2, .int (nI (v_of S p 0))), (0, .ref t), (1, .int (nI p))]) X dX14_goes_54 rfl (by decide) rfl ?_
    refine jv_iconst (v := nI 1) X dX14_goes_55 rfl ?_
    refine jv_istore_n (lv' := [(3, .int (nI 1)), (2, .int (nI (v_of S p 0))), (0, .ref t), (1, .int (nI p))]) X dX14_goes_56 rfl (by decide) rfl ?_
    refine jv_iconst (v := nI 0) X dX14_goes_57 rfl ?_
    refine jv_istore (lv' := [(4, .int (nI 0)), (3, .int (nI 1)), (2, .int (nI (v_of S p 0))), (0, .ref t), (1, .int (nI p))]) X dX14_goes_58 (by decide) rfl ?_
    have lp60_3 : ∀ (d_60 : Nat) (k : Nat) (g : Bool) (ei : Nat → Nat) (Yi : t_Y) (Mi : jv_M), k ≤ v_of S p 0 + 1 → jse 13 (xsF Yi) G B Mi S b t m_ ma oa sa ei → (∀ q, q < p → ei q = e q) → triF S m_ 1 (d + 1) c Y = triL (fun k Y => if fit_ S m_ p (up2 c p (rk S p k)) = true then triF S m_ 1 d (up2 c p (rk S p k)) Y else Y) 1 (v_of S p 0 + 1 - k) k Yi → g = decide (Yi.1 < 1) → (¬ Yi.1 < 1 → ∀ q, q < S 0 → ei q = Yi.2.1 q) → Yi.1 ≤ Y.1 + k * 6 ^ d → v_of S p 0 + 1 - k < d_60 → jv_J x G 5 Q_ Mi 0 0 60 [(0, .ref t), (1, .int (nI p)), (2, .int (nI (v_of S p 0))), (3, .int (bI g)), (4, .int (nI k))] [] := by
      intro d_60
      induction d_60 with
      | zero => intro k g ei Yi Mi hkn hsi hei hYi hgi hdi hbi hm_60; exact absurd hm_60 (Nat.not_lt_zero _)
      | succ d_60 ih_60 =>
        intro k g ei Yi Mi hkn hsi hei hYi hgi hdi hbi hm_60
        obtain ⟨⟨hti, hfti, hnti⟩, ⟨gmi, hmai, hgmi⟩, ⟨goi, hoai, hgoi⟩, ⟨gsi, hsai, hgsi, hfsai, hnsai⟩, he6i, hmsi, hosi, hagi⟩ := id hsi
        refine jv_iload X dX14_goes_60 4 rfl ?_
        refine jv_iload_n X dX14_goes_62 2 rfl ?_
        refine jn_icmp_gt 118 X dX14_goes_63 (by decide) (by omega) (by omega) (fun c63 => ?_) (fun c63 => ?_)
        · skip
          refine jv_iload_n X dX14_goes_118 3 rfl ?_
          exact jv_iret (v := bI g) X dX14_goes_119 (bI_nar _) hQ (Nat.le_of_ble_eq_true rfl) (Nat.le_of_ble_eq_true rfl) (by unfold goP; have hT_ : triF S m_ 1 (d + 1) c Y = Yi := (hYi.trans (by rw [show v_of S p 0 + 1 - k = 0 by omega]; rfl)); rw [hT_]; exact ⟨congrArg bI hgi, ei, hsi, hei, hdi⟩)
        · skip
          refine jv_iload_n X dX14_goes_66 3 rfl ?_
          refine jb_if_eq 118 X dX14_goes_67 (by decide) (fun c67 => ?_) (fun c67 => ?_)
          · skip
            refine jv_iload_n X dX14_goes_118 3 rfl ?_
            exact jv_iret (v := bI g) X dX14_goes_119 (bI_nar _) hQ (Nat.le_of_ble_eq_true rfl) (Nat.le_of_ble_eq_true rfl) (by unfold goP; have hT_ : triF S m_ 1 (d + 1) c Y = Yi := (hYi.trans (triL_stp (fun z => by rw [hgi, decide_eq_true z] at c67; cases c67) _ _)); rw [hT_]; exact ⟨congrArg bI hgi, ei, hsi, hei, hdi⟩)
          · skip
            have hlt_ : Yi.1 < 1 := of_decide_eq_true (hgi.symm.trans c67)
            refine jv_aload_n X dX14_goes_70 0 rfl ?_
            refine jv_get X dX14_goes_71 hti (T := TX16) (N := 5) (C := RX16) rfl in_X16 4 (by decide) q1202 rfl rfl ?_
            refine jv_iload_n X dX14_goes_74 1 rfl ?_
            refine jv_aload_n X dX14_goes_75 0 rfl ?_
            refine jv_get X dX14_goes_76 hti (T := TX16) (N := 5) (C := RX16) rfl in_X16 2 (by decide) q1200 rfl rfl ?_
            refine jv_bipush (v := nI 6) X dX14_goes_79 rfl ?_
            refine jv_iload_n X dX14_goes_81 1 rfl ?_
            refine jv_imul (w := nI (6 * p)) X dX14_goes_82 (pk_mul _ _) ?_
            refine jv_iload X dX14_goes_83 4 rfl ?_
            refine jv_iadd (w := nI ((6 * p) + k)) X dX14_goes_85 (nI_add _ _) ?_
            refine jv_iald (v := nI (rk S p k)) X dX14_goes_86 hoai (jn_in (by omega) (by decide)) (by rw [nI_clamp (by omega)]; exact (hgoi p k (by omega) (by omega))) ?_
            refine jv_iast (g := upd gsi p (nI (rk S p k))) X dX14_goes_87 hsai hfsai (jn_in (by omega) (by decide)) (by rw [nI_clamp (by omega)]) ?_
            have hs2_ := hsi.upS (by decide) hsai (p := p) (v := rk S p k) (Nat.lt_succ_of_le (rk_le hW (by omega)))
            obtain ⟨M2_, hM2_⟩ : ∃ M2, M2 = (jv_up Mi sa (.inl (G.2.2.1 0, 6, .inl (upd gsi p (nI (rk S p k)))))) := ⟨_, rfl⟩
            rw [← hM2_] at hs2_ ⊢
            obtain ⟨⟨ht2, hft2, hnt2⟩, ⟨gm2, hma2, hgm2⟩, ⟨go2, hoa2, hgo2⟩, ⟨gs2, hsa2, hgs2, hfsa2, hnsa2⟩, he62, hms2, hos2, hag2⟩ := id hs2_
            have hc2_ : ∀ q, q < p + 1 → (up2 ei p (rk S p k)) q = (up2 c p (rk S p k)) q := fun q hq => by
                unfold up2
                by_cases z : q = p
                · rw [if_pos z, if_pos z]
                · rw [if_neg z, if_neg z, hei q (by omega)]; exact hc q (by omega)
            have hfe_ : fit_ S m_ p (up2 c p (rk S p k)) = fit_ S m_ p (up2 ei p (rk S p k)) := fit_c hW (fun q hq => (hc2_ q (by omega)).symm)
            refine jv_aload_n X dX14_goes_88 0 rfl ?_
            refine jv_iload_n X dX14_goes_89 1 rfl ?_
            refine jv_ask (jv_runU (As := [.int (nI p)]) (rest := []) X dX14_goes_90 (c_X14_isAllowed_X16 hG hB0 hS hL hPP hs2_ p hpS_) (jv_cuP X q1293 q2475 q1294 q1295 q122 q1296 q1333 ⟨by decide, by decide⟩ hd_X14_isAllowed (by omega) (by omega)) ht2 (show jv_cl[13]? = some (RX16, TX16, 5) from rfl) (by omega) (by omega) rfl (Nat.le_of_ble_eq_true rfl)) ?_
            refine jb_if_eq 106 X dX14_goes_93 (by decide) (fun c93 => ?_) (fun c93 => ?_)
            · skip
              refine jv_iconst (v := nI 1) X dX14_goes_106 rfl ?_
              refine jv_goto 111 X dX14_goes_107 (by decide) ?_
              refine jv_istore_n (lv' := [(3, .int (nI 1)), (0, .ref t), (1, .int (nI p)), (2, .int (nI (v_of S p 0))), (4, .int (nI k))]) X dX14_goes_111 rfl (by decide) rfl ?_
              refine jv_iinc (v := nI (k + 1)) (lv' := [(4, .int (nI (k + 1))), (3, .int (nI 1)), (0, .ref t), (1, .int (nI p)), (2, .int (nI (v_of S p 0)))]) X dX14_goes_112 4 rfl (nI_1 _) (by decide) rfl ?_
              refine jv_goto 60 X dX14_goes_115 (by decide) ?_
              refine jv_lv (lv' := [(0, .ref t), (1, .int (nI p)), (2, .int (nI (v_of S p 0))), (3, .int (nI 1)), (4, .int (nI (k + 1)))]) [2, 3, 4, 1, 0] rfl ?_
              exact ih_60 (k + 1) true (up2 ei p (rk S p k)) Yi M2_ (by omega) hs2_ (fun q hq => (up2_o (show q ≠ p by omega)).trans (hei q hq)) (hYi.trans (by rw [show v_of S p 0 + 1 - (k + 1) = v_of S p 0 + 1 - k - 1 by omega, triL_s (by omega), if_pos hlt_]; show triL _ _ _ _ (if fit_ S m_ p (up2 c p (rk S p k)) = true then _ else Yi) = _; rw [if_neg (by rw [hfe_, c93]; decide)])) (decide_eq_true hlt_).symm (fun z => absurd hlt_ z) (Nat.le_trans hbi (Nat.add_le_add_left (Nat.mul_le_mul_right _ (Nat.le_succ k)) _)) (by omega)
            · skip
              refine jv_aload_n X dX14_goes_96 0 rfl ?_
              refine jv_iload_n X dX14_goes_97 1 rfl ?_
              refine jv_iconst (v := nI 1) X dX14_goes_98 rfl ?_
              refine jv_iadd (w := nI (p + 1)) X dX14_goes_99 (nI_add _ _) ?_
              refine jv_calli (jv_runU (As := [.int (nI (p + 1))]) (rest := []) X dX14_goes_100 (IH M2_ (up2 ei p (rk S p k)) (up2 c p (rk S p k)) Yi hs2_ hc2_ hlt_) (jv_cuI X (lw_U (x := yX14_goes) q1327 q2476 q2478 q1230 q122 q1231) rfl ⟨by decide, by decide⟩ hd_X14_goes (by omega) (by omega)) ht2 (show jv_cl[13]? = some (RX16, TX16, 5) from rfl) (by omega) (by omega) rfl (Nat.le_of_ble_eq_true rfl)) (fun rr_ M3_ h_ => ?_)
              obtain ⟨hr_, e3_, hs3_, he3_, hd3_⟩ := h_
              rw [hr_]
              clear hr_
              obtain ⟨⟨ht3, hft3, hnt3⟩, ⟨gm3, hma3, hgm3⟩, ⟨go3, hoa3, hgo3⟩, ⟨gs3, hsa3, hgs3, hfsa3, hnsa3⟩, he63, hms3, hos3, hag3⟩ := id hs3_
              refine jb_if_eq 110 X dX14_goes_103 (by decide) (fun c103 => ?_) (fun c103 => ?_)
              · skip
                refine jv_iconst (v := nI 0) X dX14_goes_110 rfl ?_
                refine jv_istore_n (lv' := [(3, .int (nI 0)), (0, .ref t), (1, .int (nI p)), (2, .int (nI (v_of S p 0))), (4, .int (nI k))]) X dX14_goes_111 rfl (by decide) rfl ?_
                refine jv_iinc (v := nI (k + 1)) (lv' := [(4, .int (nI (k + 1))), (3, .int (nI 0)), (0, .ref t), (1, .int (nI p)), (2, .int (nI (v_of S p 0)))]) X dX14_goes_112 4 rfl (nI_1 _) (by decide) rfl ?_
                refine jv_goto 60 X dX14_goes_115 (by decide) ?_
                refine jv_lv (lv' := [(0, .ref t), (1, .int (nI p)), (2, .int (nI (v_of S p 0))), (3, .int (nI 0)), (4, .int (nI (k + 1)))]) [2, 3, 4, 1, 0] rfl ?_
                exact ih_60 (k + 1) false e3_ (triF S m_ 1 d (up2 c p (rk S p k)) Yi) M3_ (by omega) hs3_ (fun q hq => (he3_ q (by omega)).trans ((up2_o (show q ≠ p by omega)).trans (hei q hq))) (hYi.trans (by rw [show v_of S p 0 + 1 - (k + 1) = v_of S p 0 + 1 - k - 1 by omega, triL_s (by omega), if_pos hlt_]; show triL _ _ _ _ (if fit_ S m_ p (up2 c p (rk S p k)) = true then _ else Yi) = _; rw [if_pos (hfe_.trans c93)])) c103.symm hd3_ (by have h9 := triF_bd hW (m := m_) (most := 1) d (up2 c p (rk S p k)) Yi (by omega); rw [Nat.add_mul, Nat.one_mul]; omega) (by omega)
              · skip
                refine jv_iconst (v := nI 1) X dX14_goes_106 rfl ?_
                refine jv_goto 111 X dX14_goes_107 (by decide) ?_
                refine jv_istore_n (lv' := [(3, .int (nI 1)), (0, .ref t), (1, .int (nI p)), (2, .int (nI (v_of S p 0))), (4, .int (nI k))]) X dX14_goes_111 rfl (by decide) rfl ?_
                refine jv_iinc (v := nI (k + 1)) (lv' := [(4, .int (nI (k + 1))), (3, .int (nI 1)), (0, .ref t), (1, .int (nI p)), (2, .int (nI (v_of S p 0)))]) X dX14_goes_112 4 rfl (nI_1 _) (by decide) rfl ?_
                refine jv_goto 60 X dX14_goes_115 (by decide) ?_
                refine jv_lv (lv' := [(0, .ref t), (1, .int (nI p)), (2, .int (nI (v_of S p 0))), (3, .int (nI 1)), (4, .int (nI (k + 1)))]) [2, 3, 4, 1, 0] rfl ?_
                exact ih_60 (k + 1) true e3_ (triF S m_ 1 d (up2 c p (rk S p k)) Yi) M3_ (by omega) hs3_ (fun q hq => (he3_ q (by omega)).trans ((up2_o (show q ≠ p by omega)).trans (hei q hq))) (hYi.trans (by rw [show v_of S p 0 + 1 - (k + 1) = v_of S p 0 + 1 - k - 1 by omega, triL_s (by omega), if_pos hlt_]; show triL _ _ _ _ (if fit_ S m_ p (up2 c p (rk S p k)) = true then _ else Yi) = _; rw [if_pos (hfe_.trans c93)])) c103.symm hd3_ (by have h9 := triF_bd hW (m := m_) (most := 1) d (up2 c p (rk S p k)) Yi (by omega); rw [Nat.add_mul, Nat.one_mul]; omega) (by omega)
    refine jv_lv (lv' := [(0, .ref t), (1, .int (nI p)), (2, .int (nI (v_of S p 0))), (3, .int (nI 1)), (4, .int (nI 0))]) [3, 4, 2, 1, 0] rfl ?_
    exact lp60_3 (v_of S p 0 + 1 + 1) 0 true e Y M (Nat.zero_le _) hse (fun _ _ => rfl) (by rw [← hpd_]; rfl) (decide_eq_true hY).symm (fun z => absurd hY z) (Nat.le_add_right _ _) (by omega)
  · skip
    exact (absurd c11 (by omega))
theorem c_X14_goes_X16 {l : Launch} {G : jv_G} {σ : jk_A} (hG : jk_G G σ) {B : jv_M} {τ : Nat → Nat} {b t ma oa sa : Nat} {m_ : Int32} {S : Nat → Nat} (hB : jbd G B τ b S) (hS : wfS S) (hL : wfL S) (hPP : wfP S)  : ∀ (d p : Nat), p + d = S 0 → ∀ (M : jv_M) (e c : Nat → Nat) (Y : t_Y), jse 13 (xsF Y) G B M S b t m_ ma oa sa e → (∀ q, q < p → e q = c q) → Y.1 < 1 → jv_Ct G l yX14_goes cX14_goes 5 (some .boolean) (d + 40) 0 0 (34 * d + 1200) [.ref t, .int (nI p)] M (jv_qi G (goP 13 xsF G B S b t m_ ma oa sa 1 p d c Y e))
  | 0, p, hp, M, e, c, Y, hse, hc, hY => by
    have hp2 : p = S 0 := hp
    subst hp2
    exact c_X14_goes_X16_z hG hB hS hL hPP Y e c hse hc hY
  | d + 1, p, hp, M, e, c, Y, hse, hc, hY => c_X14_goes_X16_s hG hB hS hL hPP d p Y e c hp hse hc hY (fun M e c Y h1 h2 h3 => c_X14_goes_X16 hG hB hS hL hPP d (p + 1) (by omega) M e c Y h1 h2 h3)
set_option maxHeartbeats 4000000 in
theorem c_X14_goes_X18_z {l : Launch} {G : jv_G} {M : jv_M} {σ : jk_A} (hG : jk_G G σ) {B : jv_M} {τ : Nat → Nat} {b t ma oa sa : Nat} {m_ : Int32} {S : Nat → Nat} (hB : jbd G B τ b S) (hS : wfS S) (hL : wfL S) (hPP : wfP S) {gp_ : Nat} (hgp : gp_ < S 0)  (Y : t_Y) (e : Nat → Nat) (c : Nat → Nat) (hse : jse 15 ((xsG gp_) Y) G B M S b t m_ ma oa sa e) (hc : ∀ q, q < S 0 → e q = c q) (hY : Y.1 < 1000000) (hbd : Y.1 + 6 ^ 0 < 1000000)  : jv_Ct G l yX14_goes cX14_goes 5 (some .boolean) (0 + 40) 0 0 (34 * 0 + 1200) [.ref t, .int (nI (S 0))] M (jv_qi G (fun r M' => goP 15 (xsG gp_) G B S b t m_ ma oa sa 1000000 (S 0) 0 c Y e r M')) := by
  refine jv_Ct.of (lv := [(0, .ref t), (1, .int (nI (S 0)))]) (by decide) (Nat.le_of_ble_eq_true rfl) rfl ?_
  intro x Q_ hl_ hQ X
  subst hl_
  have hB0 := hB
  obtain ⟨lp, lr, la, P, R, A, hb, hfb, ⟨⟨mp_, ep, fp, hlp, hep, hn6, hfp, -, -, -⟩, hP⟩, ⟨⟨mr_, er, fr_, hlr, her, hn30, hfr_, -, -, -⟩, hR⟩, ⟨ma_, ea, fa, hla, hea, hn6a, hfa, -, -, -⟩, hA⟩ := id hB0
  have hW := hS.1
  have hp0 := hW.p
  have hr0 := hW.r
  have ha0 := hW.a
  obtain ⟨⟨ht, hft, hnt⟩, ⟨gm, hma, hgm⟩, ⟨go, hoa, hgo⟩, ⟨gs, hsa, hgs, hfsa, hnsa⟩, he6, hms, hos, hag⟩ := id hse
  refine jv_iload_n X dX14_goes_0 1 rfl ?_
  refine jv_aload_n X dX14_goes_1 0 rfl ?_
  refine jv_get X dX14_goes_2 ht (T := TX18) (N := 7) (C := RX18) rfl in_X18 0 (by decide) q1198 rfl rfl ?_
  refine jv_getN X dX14_goes_5 (hag.c hb) (T := TX1) (N := 3) (C := RX1) rfl in_X1 0 (by decide) q181 rfl rfl ?_
  refine jv_ask (jv_runV (As := []) (rest := [.int (nI (S 0))]) X dX14_goes_8 (c_J2_size (hag.c hlp)) (lw_V q1189 q284 q285 q94 q286) hd_J2_size (hag.c hlp) rfl (by omega) (by omega) (by omega) (by omega) rfl (Nat.le_of_ble_eq_true rfl)) ?_
  refine jn_icmp_ne 34 X dX14_goes_11 (by decide) (by omega) (by omega) (fun c11 => ?_) (fun c11 => ?_)
  · skip
    exact (absurd rfl c11)
  · skip
    refine jv_aload_n X dX14_goes_14 0 rfl ?_
    refine jv_ask (jv_runU (As := []) (rest := []) X dX14_goes_15 (c_X14_areReached_X18 hG hB0 hS hL hPP hse) (jv_cuP X q1232 q2473 q1233 q1234 q122 q1235 q1415 ⟨by decide, by decide⟩ hd_X14_areReached (by omega) (by omega)) ht (show jv_cl[15]? = some (RX18, TX18, 7) from rfl) (by omega) (by omega) rfl (Nat.le_of_ble_eq_true rfl)) ?_
    refine jb_if_eq 28 X dX14_goes_18 (by decide) (fun c18 => ?_) (fun c18 => ?_)
    · skip
      refine jv_iconst (v := nI 1) X dX14_goes_28 rfl ?_
      refine jv_goto 33 X dX14_goes_29 (by decide) ?_
      exact jv_iret (v := bI true) X dX14_goes_33 (bI_nar _) hQ (Nat.le_of_ble_eq_true rfl) (Nat.le_of_ble_eq_true rfl) (by unfold goP; have hT_ : triF S m_ 1000000 0 c Y = Y := (if_neg (by rw [unr_c hS (c' := e) (fun q hq => (hc q hq).symm)]; exact of_decide_eq_false c18)); rw [hT_]; exact ⟨congrArg bI (decide_eq_true hY).symm, e, hse, fun _ _ => rfl, fun z => absurd hY z⟩)
    · skip
      refine jv_aload_n X dX14_goes_21 0 rfl ?_
      refine jv_calli (jv_runU (As := []) (rest := []) X dX14_goes_22 (c_X18_finds hG hB0 hS hL hPP hse (Nat.lt_of_lt_of_le hgp hS.1.p)) (jv_cuA X (lw_U (x := yA_Search_finds) q1278 q1280 q1287 q1288 q126 q1289) q1279 ⟨by decide, by decide⟩ hd_yA_Search_finds (by omega) (by omega)) ht (show jv_cl[15]? = some (RX18, TX18, 7) from rfl) (by omega) (by omega) rfl (Nat.le_of_ble_eq_true rfl)) (fun rr_ M2_ h_ => ?_)
      obtain ⟨hr_, hm_⟩ := h_
      rw [hr_, hm_]
      clear hr_ hm_
      refine jb_if_eq 32 X dX14_goes_25 (by decide) (fun c25 => ?_) (fun c25 => ?_)
      · skip
        exact (absurd c25 (by decide))
      · skip
        refine jv_iconst (v := nI 1) X dX14_goes_28 rfl ?_
        refine jv_goto 33 X dX14_goes_29 (by decide) ?_
        exact jv_iret (v := bI true) X dX14_goes_33 (bI_nar _) hQ (Nat.le_of_ble_eq_true rfl) (Nat.le_of_ble_eq_true rfl) (by unfold goP; have hT_ : triF S m_ 1000000 0 c Y = lfY c Y := (if_pos (by rw [unr_c hS (c' := e) (fun q hq => (hc q hq).symm)]; exact of_decide_eq_true c18)); rw [hT_]; exact ⟨congrArg bI (decide_eq_true (show Y.1 + 1 < 1000000 by omega)).symm, e, (by rw [show xsG gp_ (lfY c Y) = [.int (nI gp_), .int (nI (Y.2.2 gp_) ||| nI (2 ^ e gp_))] by unfold xsG lfY; rw [hc gp_ hgp, ni_or]]; exact hse.upT (by decide)), fun _ _ => rfl, fun z => absurd (show Y.1 + 1 < 1000000 by omega) z⟩)
set_option maxHeartbeats 4000000 in
theorem c_X14_goes_X18_s {l : Launch} {G : jv_G} {M : jv_M} {σ : jk_A} (hG : jk_G G σ) {B : jv_M} {τ : Nat → Nat} {b t ma oa sa : Nat} {m_ : Int32} {S : Nat → Nat} (hB : jbd G B τ b S) (hS : wfS S) (hL : wfL S) (hPP : wfP S) {gp_ : Nat} (hgp : gp_ < S 0)  (d : Nat) (p : Nat) (Y : t_Y) (e : Nat → Nat) (c : Nat → Nat) (hpd : p + (d + 1) = S 0) (hse : jse 15 ((xsG gp_) Y) G B M S b t m_ ma oa sa e) (hc : ∀ q, q < p → e q = c q) (hY : Y.1 < 1000000) (hbd : Y.1 + 6 ^ (d + 1) < 1000000) (IH : ∀ (M : jv_M) (e c : Nat → Nat) (Y : t_Y), jse 15 ((xsG gp_) Y) G B M S b t m_ ma oa sa e → (∀ q, q < p + 1 → e q = c q) → Y.1 < 1000000 → Y.1 + 6 ^ d < 1000000 → jv_Ct G l yX14_goes cX14_goes 5 (some .boolean) (d + 40) 0 0 (34 * d + 1200) [.ref t, .int (nI (p + 1))] M (jv_qi G (goP 15 (xsG gp_) G B S b t m_ ma oa sa 1000000 (p + 1) d c Y e)))  : jv_Ct G l yX14_goes cX14_goes 5 (some .boolean) ((d + 1) + 40) 0 0 (34 * (d + 1) + 1200) [.ref t, .int (nI p)] M (jv_qi G (fun r M' => goP 15 (xsG gp_) G B S b t m_ ma oa sa 1000000 p (d + 1) c Y e r M')) := by
  refine jv_Ct.of (lv := [(0, .ref t), (1, .int (nI p))]) (by decide) (Nat.le_of_ble_eq_true rfl) rfl ?_
  intro x Q_ hl_ hQ X
  subst hl_
  have hB0 := hB
  obtain ⟨lp, lr, la, P, R, A, hb, hfb, ⟨⟨mp_, ep, fp, hlp, hep, hn6, hfp, -, -, -⟩, hP⟩, ⟨⟨mr_, er, fr_, hlr, her, hn30, hfr_, -, -, -⟩, hR⟩, ⟨ma_, ea, fa, hla, hea, hn6a, hfa, -, -, -⟩, hA⟩ := id hB0
  have hW := hS.1
  have hp0 := hW.p
  have hr0 := hW.r
  have ha0 := hW.a
  obtain ⟨⟨ht, hft, hnt⟩, ⟨gm, hma, hgm⟩, ⟨go, hoa, hgo⟩, ⟨gs, hsa, hgs, hfsa, hnsa⟩, he6, hms, hos, hag⟩ := id hse
  have hpS_ : p < S 0 := by omega
  have hpd_ : S 0 - (d + 1) = p := by omega
  refine jv_iload_n X dX14_goes_0 1 rfl ?_
  refine jv_aload_n X dX14_goes_1 0 rfl ?_
  refine jv_get X dX14_goes_2 ht (T := TX18) (N := 7) (C := RX18) rfl in_X18 0 (by decide) q1198 rfl rfl ?_
  refine jv_getN X dX14_goes_5 (hag.c hb) (T := TX1) (N := 3) (C := RX1) rfl in_X1 0 (by decide) q181 rfl rfl ?_
  refine jv_ask (jv_runV (As := []) (rest := [.int (nI p)]) X dX14_goes_8 (c_J2_size (hag.c hlp)) (lw_V q1189 q284 q285 q94 q286) hd_J2_size (hag.c hlp) rfl (by omega) (by omega) (by omega) (by omega) rfl (Nat.le_of_ble_eq_true rfl)) ?_
  refine jn_icmp_ne 34 X dX14_goes_11 (by decide) (by omega) (by omega) (fun c11 => ?_) (fun c11 => ?_)
  · skip
    refine jv_aload_n X dX14_goes_34 0 rfl ?_
    refine jv_get X dX14_goes_35 ht (T := TX18) (N := 7) (C := RX18) rfl in_X18 0 (by decide) q1198 rfl rfl ?_
    refine jv_getN X dX14_goes_38 (hag.c hb) (T := TX1) (N := 3) (C := RX1) rfl in_X1 0 (by decide) q181 rfl rfl ?_
    refine jv_iload_n X dX14_goes_41 1 rfl ?_
    refine jv_callr (jv_runV (As := [.int (nI p)]) (rest := []) X dX14_goes_42 (c_J2_get (hag.c hlp) (hag.c hep) p (P p) (by omega) (by omega) (by omega) (by rw [hfp _ (by omega)]; rfl)) (lw_V q1190 q533 q534 q94 q535) hd_J2_get (hag.c hlp) rfl (by omega) (by omega) (by omega) (by omega) rfl (Nat.le_of_ble_eq_true rfl)) (fun rr_ M_ h_ => ?_)
    obtain ⟨hr_, hm_⟩ := h_
    rw [hr_, hm_]
    clear hr_ hm_
    obtain ⟨lv_2, V_2, hpk_2, -, ⟨mv_2, ev_2, fv_2, hlv_2, hev_2, hnv_2, hfv_2, -, -, -⟩, hvv_2⟩ := hP p (by omega)
    have hnv5_2 := hW.nv (show p < 6 by omega)
    refine jv_castS X dX14_goes_45 (hag.c hpk_2) (r := (RX3, TX3, 2)) rfl q1191 ?_
    refine jv_getN X dX14_goes_48 (hag.c hpk_2) (T := TX3) (N := 2) (C := RX3) rfl in_X3 0 (by decide) q353 rfl rfl ?_
    refine jv_ask (jv_runV (As := []) (rest := []) X dX14_goes_51 (c_J2_size (hag.c hlv_2)) (lw_V q1189 q284 q285 q94 q286) hd_J2_size (hag.c hlv_2) rfl (by omega) (by omega) (by omega) (by omega) rfl (Nat.le_of_ble_eq_true rfl)) ?_
    refine jv_istore_n (lv' := [(2, .int (nI (v_of S p 0))), (0, .ref t), (1, .int (nI p))]) X dX14_goes_54 rfl (by decide) rfl ?_
    refine jv_iconst (v := nI 1) X dX14_goes_55 rfl ?_
    refine jv_istore_n (lv' := [(3, .int (nI 1)), (2, .int (nI (v_of S p 0))), (0, .ref t), (1, .int (nI p))]) X dX14_goes_56 rfl (by decide) rfl ?_
    refine jv_iconst (v := nI 0) X dX14_goes_57 rfl ?_
    refine jv_istore (lv' := [(4, .int (nI 0)), (3, .int (nI 1)), (2, .int (nI (v_of S p 0))), (0, .ref t), (1, .int (nI p))]) X dX14_goes_58 (by decide) rfl ?_
    have lp60_3 : ∀ (d_60 : Nat) (k : Nat) (g : Bool) (ei : Nat → Nat) (Yi : t_Y) (Mi : jv_M), k ≤ v_of S p 0 + 1 → jse 15 ((xsG gp_) Yi) G B Mi S b t m_ ma oa sa ei → (∀ q, q < p → ei q = e q) → triF S m_ 1000000 (d + 1) c Y = triL (fun k Y => if fit_ S m_ p (up2 c p (rk S p k)) = true then triF S m_ 1000000 d (up2 c p (rk S p k)) Y else Y) 1000000 (v_of S p 0 + 1 - k) k Yi → g = decide (Yi.1 < 1000000) → (¬ Yi.1 < 1000000 → ∀ q, q < S 0 → ei q = Yi.2.1 q) → Yi.1 ≤ Y.1 + k * 6 ^ d → v_of S p 0 + 1 - k < d_60 → jv_J x G 5 Q_ Mi 0 0 60 [(0, .ref t), (1, .int (nI p)), (2, .int (nI (v_of S p 0))), (3, .int (bI g)), (4, .int (nI k))] [] := by
      intro d_60
      induction d_60 with
      | zero => intro k g ei Yi Mi hkn hsi hei hYi hgi hdi hbi hm_60; exact absurd hm_60 (Nat.not_lt_zero _)
      | succ d_60 ih_60 =>
        intro k g ei Yi Mi hkn hsi hei hYi hgi hdi hbi hm_60
        obtain ⟨⟨hti, hfti, hnti⟩, ⟨gmi, hmai, hgmi⟩, ⟨goi, hoai, hgoi⟩, ⟨gsi, hsai, hgsi, hfsai, hnsai⟩, he6i, hmsi, hosi, hagi⟩ := id hsi
        refine jv_iload X dX14_goes_60 4 rfl ?_
        refine jv_iload_n X dX14_goes_62 2 rfl ?_
        refine jn_icmp_gt 118 X dX14_goes_63 (by decide) (by omega) (by omega) (fun c63 => ?_) (fun c63 => ?_)
        · skip
          refine jv_iload_n X dX14_goes_118 3 rfl ?_
          exact jv_iret (v := bI g) X dX14_goes_119 (bI_nar _) hQ (Nat.le_of_ble_eq_true rfl) (Nat.le_of_ble_eq_true rfl) (by unfold goP; have hT_ : triF S m_ 1000000 (d + 1) c Y = Yi := (hYi.trans (by rw [show v_of S p 0 + 1 - k = 0 by omega]; rfl)); rw [hT_]; exact ⟨congrArg bI hgi, ei, hsi, hei, hdi⟩)
        · skip
          refine jv_iload_n X dX14_goes_66 3 rfl ?_
          refine jb_if_eq 118 X dX14_goes_67 (by decide) (fun c67 => ?_) (fun c67 => ?_)
          · skip
            refine jv_iload_n X dX14_goes_118 3 rfl ?_
            exact jv_iret (v := bI g) X dX14_goes_119 (bI_nar _) hQ (Nat.le_of_ble_eq_true rfl) (Nat.le_of_ble_eq_true rfl) (by unfold goP; have hT_ : triF S m_ 1000000 (d + 1) c Y = Yi := (hYi.trans (triL_stp (fun z => by rw [hgi, decide_eq_true z] at c67; cases c67) _ _)); rw [hT_]; exact ⟨congrArg bI hgi, ei, hsi, hei, hdi⟩)
          · skip
            have hlt_ : Yi.1 < 1000000 := of_decide_eq_true (hgi.symm.trans c67)
            have hb2_ : Yi.1 + 6 ^ d < 1000000 := by
                have h1 : k * 6 ^ d ≤ 5 * 6 ^ d := Nat.mul_le_mul_right _ (by omega)
                rw [Nat.pow_succ] at hbd
                omega
            refine jv_aload_n X dX14_goes_70 0 rfl ?_
            refine jv_get X dX14_goes_71 hti (T := TX18) (N := 7) (C := RX18) rfl in_X18 4 (by decide) q1202 rfl rfl ?_
            refine jv_iload_n X dX14_goes_74 1 rfl ?_
            refine jv_aload_n X dX14_goes_75 0 rfl ?_
            refine jv_get X dX14_goes_76 hti (T := TX18) (N := 7) (C := RX18) rfl in_X18 2 (by decide) q1200 rfl rfl ?_
            refine jv_bipush (v := nI 6) X dX14_goes_79 rfl ?_
            refine jv_iload_n X dX14_goes_81 1 rfl ?_
            refine jv_imul (w := nI (6 * p)) X dX14_goes_82 (pk_mul _ _) ?_
            refine jv_iload X dX14_goes_83 4 rfl ?_
            refine jv_iadd (w := nI ((6 * p) + k)) X dX14_goes_85 (nI_add _ _) ?_
            refine jv_iald (v := nI (rk S p k)) X dX14_goes_86 hoai (jn_in (by omega) (by decide)) (by rw [nI_clamp (by omega)]; exact (hgoi p k (by omega) (by omega))) ?_
            refine jv_iast (g := upd gsi p (nI (rk S p k))) X dX14_goes_87 hsai hfsai (jn_in (by omega) (by decide)) (by rw [nI_clamp (by omega)]) ?_
            have hs2_ := hsi.upS (by decide) hsai (p := p) (v := rk S p k) (Nat.lt_succ_of_le (rk_le hW (by omega)))
            obtain ⟨M2_, hM2_⟩ : ∃ M2, M2 = (jv_up Mi sa (.inl (G.2.2.1 0, 6, .inl (upd gsi p (nI (rk S p k)))))) := ⟨_, rfl⟩
            rw [← hM2_] at hs2_ ⊢
            obtain ⟨⟨ht2, hft2, hnt2⟩, ⟨gm2, hma2, hgm2⟩, ⟨go2, hoa2, hgo2⟩, ⟨gs2, hsa2, hgs2, hfsa2, hnsa2⟩, he62, hms2, hos2, hag2⟩ := id hs2_
            have hc2_ : ∀ q, q < p + 1 → (up2 ei p (rk S p k)) q = (up2 c p (rk S p k)) q := fun q hq => by
                unfold up2
                by_cases z : q = p
                · rw [if_pos z, if_pos z]
                · rw [if_neg z, if_neg z, hei q (by omega)]; exact hc q (by omega)
            have hfe_ : fit_ S m_ p (up2 c p (rk S p k)) = fit_ S m_ p (up2 ei p (rk S p k)) := fit_c hW (fun q hq => (hc2_ q (by omega)).symm)
            refine jv_aload_n X dX14_goes_88 0 rfl ?_
            refine jv_iload_n X dX14_goes_89 1 rfl ?_
            refine jv_ask (jv_runU (As := [.int (nI p)]) (rest := []) X dX14_goes_90 (c_X14_isAllowed_X18 hG hB0 hS hL hPP hs2_ p hpS_) (jv_cuP X q1293 q2475 q1294 q1295 q122 q1296 q1415 ⟨by decide, by decide⟩ hd_X14_isAllowed (by omega) (by omega)) ht2 (show jv_cl[15]? = some (RX18, TX18, 7) from rfl) (by omega) (by omega) rfl (Nat.le_of_ble_eq_true rfl)) ?_
            refine jb_if_eq 106 X dX14_goes_93 (by decide) (fun c93 => ?_) (fun c93 => ?_)
            · skip
              refine jv_iconst (v := nI 1) X dX14_goes_106 rfl ?_
              refine jv_goto 111 X dX14_goes_107 (by decide) ?_
              refine jv_istore_n (lv' := [(3, .int (nI 1)), (0, .ref t), (1, .int (nI p)), (2, .int (nI (v_of S p 0))), (4, .int (nI k))]) X dX14_goes_111 rfl (by decide) rfl ?_
              refine jv_iinc (v := nI (k + 1)) (lv' := [(4, .int (nI (k + 1))), (3, .int (nI 1)), (0, .ref t), (1, .int (nI p)), (2, .int (nI (v_of S p 0)))]) X dX14_goes_112 4 rfl (nI_1 _) (by decide) rfl ?_
              refine jv_goto 60 X dX14_goes_115 (by decide) ?_
              refine jv_lv (lv' := [(0, .ref t), (1, .int (nI p)), (2, .int (nI (v_of S p 0))), (3, .int (nI 1)), (4, .int (nI (k + 1)))]) [2, 3, 4, 1, 0] rfl ?_
              exact ih_60 (k + 1) true (up2 ei p (rk S p k)) Yi M2_ (by omega) hs2_ (fun q hq => (up2_o (show q ≠ p by omega)).trans (hei q hq)) (hYi.trans (by rw [show v_of S p 0 + 1 - (k + 1) = v_of S p 0 + 1 - k - 1 by omega, triL_s (by omega), if_pos hlt_]; show triL _ _ _ _ (if fit_ S m_ p (up2 c p (rk S p k)) = true then _ else Yi) = _; rw [if_neg (by rw [hfe_, c93]; decide)])) (decide_eq_true hlt_).symm (fun z => absurd hlt_ z) (Nat.le_trans hbi (Nat.add_le_add_left (Nat.mul_le_mul_right _ (Nat.le_succ k)) _)) (by omega)
            · skip
              refine jv_aload_n X dX14_goes_96 0 rfl ?_
              refine jv_iload_n X dX14_goes_97 1 rfl ?_
              refine jv_iconst (v := nI 1) X dX14_goes_98 rfl ?_
              refine jv_iadd (w := nI (p + 1)) X dX14_goes_99 (nI_add _ _) ?_
              refine jv_calli (jv_runU (As := [.int (nI (p + 1))]) (rest := []) X dX14_goes_100 (IH M2_ (up2 ei p (rk S p k)) (up2 c p (rk S p k)) Yi hs2_ hc2_ hlt_ hb2_) (jv_cuI X (lw_U (x := yX14_goes) q1327 q2476 q2479 q1230 q122 q1231) rfl ⟨by decide, by decide⟩ hd_X14_goes (by omega) (by omega)) ht2 (show jv_cl[15]? = some (RX18, TX18, 7) from rfl) (by omega) (by omega) rfl (Nat.le_of_ble_eq_true rfl)) (fun rr_ M3_ h_ => ?_)
              obtain ⟨hr_, e3_, hs3_, he3_, hd3_⟩ := h_
              rw [hr_]
              clear hr_
              obtain ⟨⟨ht3, hft3, hnt3⟩, ⟨gm3, hma3, hgm3⟩, ⟨go3, hoa3, hgo3⟩, ⟨gs3, hsa3, hgs3, hfsa3, hnsa3⟩, he63, hms3, hos3, hag3⟩ := id hs3_
              refine jb_if_eq 110 X dX14_goes_103 (by decide) (fun c103 => ?_) (fun c103 => ?_)
              · skip
                refine jv_iconst (v := nI 0) X dX14_goes_110 rfl ?_
                refine jv_istore_n (lv' := [(3, .int (nI 0)), (0, .ref t), (1, .int (nI p)), (2, .int (nI (v_of S p 0))), (4, .int (nI k))]) X dX14_goes_111 rfl (by decide) rfl ?_
                refine jv_iinc (v := nI (k + 1)) (lv' := [(4, .int (nI (k + 1))), (3, .int (nI 0)), (0, .ref t), (1, .int (nI p)), (2, .int (nI (v_of S p 0)))]) X dX14_goes_112 4 rfl (nI_1 _) (by decide) rfl ?_
                refine jv_goto 60 X dX14_goes_115 (by decide) ?_
                refine jv_lv (lv' := [(0, .ref t), (1, .int (nI p)), (2, .int (nI (v_of S p 0))), (3, .int (nI 0)), (4, .int (nI (k + 1)))]) [2, 3, 4, 1, 0] rfl ?_
                exact ih_60 (k + 1) false e3_ (triF S m_ 1000000 d (up2 c p (rk S p k)) Yi) M3_ (by omega) hs3_ (fun q hq => (he3_ q (by omega)).trans ((up2_o (show q ≠ p by omega)).trans (hei q hq))) (hYi.trans (by rw [show v_of S p 0 + 1 - (k + 1) = v_of S p 0 + 1 - k - 1 by omega, triL_s (by omega), if_pos hlt_]; show triL _ _ _ _ (if fit_ S m_ p (up2 c p (rk S p k)) = true then _ else Yi) = _; rw [if_pos (hfe_.trans c93)])) c103.symm hd3_ (by have h9 := triF_bd hW (m := m_) (most := 1000000) d (up2 c p (rk S p k)) Yi (by omega); rw [Nat.add_mul, Nat.one_mul]; omega) (by omega)
              · skip
                refine jv_iconst (v := nI 1) X dX14_goes_106 rfl ?_
                refine jv_goto 111 X dX14_goes_107 (by decide) ?_
                refine jv_istore_n (lv' := [(3, .int (nI 1)), (0, .ref t), (1, .int (nI p)), (2, .int (nI (v_of S p 0))), (4, .int (nI k))]) X dX14_goes_111 rfl (by decide) rfl ?_
                refine jv_iinc (v := nI (k + 1)) (lv' := [(4, .int (nI (k + 1))), (3, .int (nI 1)), (0, .ref t), (1, .int (nI p)), (2, .int (nI (v_of S p 0)))]) X dX14_goes_112 4 rfl (nI_1 _) (by decide) rfl ?_
                refine jv_goto 60 X dX14_goes_115 (by decide) ?_
                refine jv_lv (lv' := [(0, .ref t), (1, .int (nI p)), (2, .int (nI (v_of S p 0))), (3, .int (nI 1)), (4, .int (nI (k + 1)))]) [2, 3, 4, 1, 0] rfl ?_
                exact ih_60 (k + 1) true e3_ (triF S m_ 1000000 d (up2 c p (rk S p k)) Yi) M3_ (by omega) hs3_ (fun q hq => (he3_ q (by omega)).trans ((up2_o (show q ≠ p by omega)).trans (hei q hq))) (hYi.trans (by rw [show v_of S p 0 + 1 - (k + 1) = v_of S p 0 + 1 - k - 1 by omega, triL_s (by omega), if_pos hlt_]; show triL _ _ _ _ (if fit_ S m_ p (up2 c p (rk S p k)) = true then _ else Yi) = _; rw [if_pos (hfe_.trans c93)])) c103.symm hd3_ (by have h9 := triF_bd hW (m := m_) (most := 1000000) d (up2 c p (rk S p k)) Yi (by omega); rw [Nat.add_mul, Nat.one_mul]; omega) (by omega)
    refine jv_lv (lv' := [(0, .ref t), (1, .int (nI p)), (2, .int (nI (v_of S p 0))), (3, .int (nI 1)), (4, .int (nI 0))]) [3, 4, 2, 1, 0] rfl ?_
    exact lp60_3 (v_of S p 0 + 1 + 1) 0 true e Y M (Nat.zero_le _) hse (fun _ _ => rfl) (by rw [← hpd_]; rfl) (decide_eq_true hY).symm (fun z => absurd hY z) (Nat.le_add_right _ _) (by omega)
  · skip
    exact (absurd c11 (by omega))
theorem c_X14_goes_X18 {l : Launch} {G : jv_G} {σ : jk_A} (hG : jk_G G σ) {B : jv_M} {τ : Nat → Nat} {b t ma oa sa : Nat} {m_ : Int32} {S : Nat → Nat} (hB : jbd G B τ b S) (hS : wfS S) (hL : wfL S) (hPP : wfP S) {gp_ : Nat} (hgp : gp_ < S 0)  : ∀ (d p : Nat), p + d = S 0 → ∀ (M : jv_M) (e c : Nat → Nat) (Y : t_Y), jse 15 ((xsG gp_) Y) G B M S b t m_ ma oa sa e → (∀ q, q < p → e q = c q) → Y.1 < 1000000 → Y.1 + 6 ^ d < 1000000 → jv_Ct G l yX14_goes cX14_goes 5 (some .boolean) (d + 40) 0 0 (34 * d + 1200) [.ref t, .int (nI p)] M (jv_qi G (goP 15 (xsG gp_) G B S b t m_ ma oa sa 1000000 p d c Y e))
  | 0, p, hp, M, e, c, Y, hse, hc, hY, hbd => by
    have hp2 : p = S 0 := hp
    subst hp2
    exact c_X14_goes_X18_z hG hB hS hL hPP hgp Y e c hse hc hY hbd
  | d + 1, p, hp, M, e, c, Y, hse, hc, hY, hbd => c_X14_goes_X18_s hG hB hS hL hPP hgp d p Y e c hp hse hc hY hbd (fun M e c Y h1 h2 h3 h4 => c_X14_goes_X18 hG hB hS hL hPP hgp d (p + 1) (by omega) M e c Y h1 h2 h3 h4)
