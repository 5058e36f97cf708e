/-! the component, seventh: boards -/
set_option maxRecDepth 100000
theorem rgI_n {S : Nat → Nat} {r : Nat} (h : 0 ≤ rgI S r) : ¬ v_ofRule S r 0 = 3 := fun z => absurd h (by unfold rgI; rw [if_pos z]; decide)
theorem rgI_3 {S : Nat → Nat} (hW : wfB S) {r : Nat} (hr : r < 30) (h : ¬ 0 ≤ rgI S r) : v_ofRule S r 0 = 3 := Classical.byContradiction fun z => h (by
  unfold rgI
  rw [if_neg z]
  refine nI_pos' (Nat.lt_trans ?_ (by decide : 6 < 2 ^ 31))
  unfold rgp
  split
  · exact hW.r1 hr
  · exact hW.r3 hr)
theorem hd_X1_isAssumed : jv_dd yX1_isAssumed 1 := by unfold jv_dd; decide +kernel
set_option maxHeartbeats 4000000 in
theorem c_X1_isAssumed {l : Launch} {G : jv_G} {M : jv_M} {σ : jk_A} (hG : jk_G G σ) {τ : Nat → Nat} {b : Nat} {S : Nat → Nat} (hB : jbd G M τ b S) (hS : wfS S) (hL : wfL S) (p_ : Nat) (hp_ : p_ < 6) : jv_Ct G l yX1_isAssumed cX1_isAssumed 4 (some .boolean) 3 1 4 71 [.ref b, .int (nI p_)] M (jv_qi G (jv_pi (bI (asdN S p_ (S 2))) M)) := by
  refine jv_Ct.of (lv := [(0, .ref b), (1, .int (nI p_))]) (by decide) (Nat.le_of_ble_eq_true rfl) rfl ?_
  intro x Q_ hl_ hQ X
  subst hl_
  obtain ⟨lp, lr, la, P, R, A, hb, hfb, ⟨⟨mp_, ep, fp, hlp, hep, hn6, hfp, -, -, -⟩, hP⟩, ⟨⟨mr_, er, fr_, hlr, her, hn30, hfr_, -, -, -⟩, hR⟩, ⟨ma_, ea, fa, hla, hea, hn6a, hfa, -, -, -⟩, hA⟩ := hB
  have hW := hS.1
  have hp0 := hW.p
  have hr0 := hW.r
  have ha0 := hW.a
  refine jv_aload_n X dX1_isAssumed_0 0 rfl ?_
  refine jv_get X dX1_isAssumed_1 hb (T := TX1) (N := 3) (C := RX1) rfl in_X1 2 (by decide) q189 rfl rfl ?_
  refine jv_callr (jv_runV (As := []) (rest := []) X dX1_isAssumed_4 (c_J2_iterator hla) (lw_V q293 q294 q295 q94 q296) hd_J2_iterator hla rfl (Nat.le_of_ble_eq_true rfl) (Nat.le_of_ble_eq_true rfl) (by omega) (by omega) rfl (Nat.le_of_ble_eq_true rfl)) (fun q_1 M_ h_ => ?_)
  obtain ⟨hnq_1, hbq_1, hm_⟩ := h_
  rw [hm_]
  clear hm_
  refine jv_astore_n (lv' := [(2, .ref q_1), (0, .ref b), (1, .int (nI p_))]) X dX1_isAssumed_7 rfl (by decide) rfl ?_
  have lp8_2 : ∀ (d_8 : Nat) (i : Nat) (lr_ : Int32), i ≤ S 2 → asdN S p_ i = false → S 2 - i < d_8 → jv_J x G 4 Q_ (jv_up M q_1 (.inr (24, [.int (nI i), .int lr_, .int ma_, .ref la]))) 1 4 8 [(0, .ref b), (1, .int (nI p_)), (2, .ref q_1)] [] := by
    intro d_8
    induction d_8 with
    | zero => intro i lr_ hi5 hno hm_8; exact absurd hm_8 (Nat.not_lt_zero _)
    | succ d_8 ih_8 =>
      intro i lr_ hi5 hno hm_8
      refine jv_aload_n X dX1_isAssumed_8 2 rfl ?_
      refine jv_askF (jv_runF (xm := jx_hasNext) (As := []) (rest := []) X dX1_isAssumed_9 (hG.f X).2.2.2.2.2.1 (c_J8_hasNext jv_up_s ((jag.new jag.rf hnq_1).c hla) (by omega) (by omega)) (lw_F q317 q321 q323 q101 q325) hd_jx_hasNext jv_up_s rfl (Nat.le_of_ble_eq_true rfl) (Nat.le_of_ble_eq_true rfl) (Nat.le_of_ble_eq_true rfl) (Nat.le_of_ble_eq_true rfl) rfl (Nat.le_of_ble_eq_true rfl)) ?_
      refine jb_if_eq 40 X dX1_isAssumed_14 (by decide) (fun c14 => ?_) (fun c14 => ?_)
      · skip
        have hne_ := hn_f c14
        refine jv_iconst (v := nI 0) X dX1_isAssumed_40 rfl ?_
        refine jv_fewer (jag.few (jag.new jag.rf hnq_1)) ?_
        exact jv_iret (v := bI false) X dX1_isAssumed_41 (bI_nar _) hQ (Nat.le_of_ble_eq_true rfl) (Nat.le_of_ble_eq_true rfl) ⟨(by rw [show S 2 = i by omega, hno]), rfl⟩
      · skip
        have hne_ := hn_t c14
        refine jv_aload_n X dX1_isAssumed_17 2 rfl ?_
        refine jv_callFr (jv_runF (xm := jx_next) (As := []) (rest := []) X dX1_isAssumed_18 (hG.f X).2.2.2.2.2.2.1 (c_J8_next jv_up_s ((jag.new jag.rf hnq_1).c hla) ((jag.new jag.rf hnq_1).c hea) (A i) hbq_1 (by omega) (by omega) (by omega) (by rw [hfa _ (by omega)]; rfl)) (lw_F q327 q330 q332 q101 q334) hd_jx_next jv_up_s rfl (Nat.le_of_ble_eq_true rfl) (Nat.le_of_ble_eq_true rfl) (Nat.le_of_ble_eq_true rfl) (Nat.le_of_ble_eq_true rfl) rfl (Nat.le_of_ble_eq_true rfl)) (fun rr_ M_ h_ => ?_)
        obtain ⟨hr_, hm_⟩ := h_
        rw [hr_, hm_]
        clear hr_ hm_
        rw [jv_up_up]
        refine jv_castS X dX1_isAssumed_23 ((jag.new jag.rf hnq_1).c (hA i (by omega)).2) (r := (RX12, TX12, 2)) rfl q1105 ?_
        refine jv_astore_n (lv' := [(3, .ref (A i)), (0, .ref b), (1, .int (nI p_)), (2, .ref q_1)]) X dX1_isAssumed_26 rfl (by decide) rfl ?_
        refine jv_aload_n X dX1_isAssumed_27 0 rfl ?_
        refine jv_getN X dX1_isAssumed_28 ((jag.new jag.rf hnq_1).c (hA i (by omega)).2) (T := TX12) (N := 2) (C := RX12) rfl in_X12 0 (by decide) q1115 rfl rfl ?_
        refine jv_iload_n X dX1_isAssumed_31 2 rfl ?_
        refine jn_icmp_ne 37 X dX1_isAssumed_32 (by decide) (by have := hW.a0 (show i < 6 by omega); omega) (by omega) (fun c32 => ?_) (fun c32 => ?_)
        · skip
          refine jv_goto 8 X dX1_isAssumed_37 (by decide) ?_
          refine jv_lv (lv' := [(0, .ref b), (1, .int (nI p_)), (2, .ref q_1)]) [1, 2, 3] rfl ?_
          exact ih_8 (i + 1) (nI i) (by omega) (by unfold asdN; rw [hno]; simpa [v_asm] using c32) (by omega)
        · skip
          refine jv_iconst (v := nI 1) X dX1_isAssumed_35 rfl ?_
          refine jv_fewer (jag.few (jag.new jag.rf hnq_1)) ?_
          exact jv_iret (v := bI true) X dX1_isAssumed_36 (bI_nar _) hQ (Nat.le_of_ble_eq_true rfl) (Nat.le_of_ble_eq_true rfl) ⟨(by rw [asdN_t (a := i) (by omega) (by simpa [v_asm] using c32)]), rfl⟩
  refine jv_lv (lv' := [(0, .ref b), (1, .int (nI p_)), (2, .ref q_1)]) [1, 2, 0] rfl ?_
  exact lp8_2 (S 2 + 1) 0 (-1) (Nat.zero_le _) rfl (by omega)
theorem hd_X1_maskOf : jv_dd yX1_maskOf 1 := by unfold jv_dd; decide +kernel
set_option maxHeartbeats 4000000 in
theorem c_X1_maskOf {l : Launch} {G : jv_G} {M : jv_M} {σ : jk_A} (hG : jk_G G σ) {τ : Nat → Nat} {b : Nat} {S : Nat → Nat} (hB : jbd G M τ b S) (hS : wfS S) (hL : wfL S) (r : Nat) (a_ : Nat) (hr : r < S 1) (ha_ : jrule G M τ S r a_) : jv_Ct G l yX1_maskOf cX1_maskOf 2 (some .int) 8 10 30 260 [.ref b, .ref a_] M (jv_qi G (jv_pi (nI (msk S r)) M)) := by
  refine jv_Ct.of (lv := [(0, .ref b), (1, .ref a_)]) (by decide) (Nat.le_of_ble_eq_true rfl) rfl ?_
  intro x Q_ hl_ hQ X
  subst hl_
  obtain ⟨lp, lr, la, P, R, A, hb, hfb, ⟨⟨mp_, ep, fp, hlp, hep, hn6, hfp, -, -, -⟩, hP⟩, ⟨⟨mr_, er, fr_, hlr, her, hn30, hfr_, -, -, -⟩, hR⟩, ⟨ma_, ea, fa, hla, hea, hn6a, hfa, -, -, -⟩, hA⟩ := hB
  have hW := hS.1
  have hp0 := hW.p
  have hr0 := hW.r
  have ha0 := hW.a
  refine jv_aload_n X dX1_maskOf_0 1 rfl ?_
  refine jv_ask (jr_ranged (rest := []) X dX1_maskOf_1 q872 ha_ (Nat.le_of_ble_eq_true rfl) (Nat.le_of_ble_eq_true rfl) (Nat.le_of_ble_eq_true rfl) (Nat.le_of_ble_eq_true rfl) (Nat.le_of_ble_eq_true rfl)) ?_
  refine jv_if_ge 11 X dX1_maskOf_4 (by decide) (fun c4 => ?_) (fun c4 => ?_)
  · skip
    have hrg := rgp_lt hS hr
    refine jv_aload_n X dX1_maskOf_11 0 rfl ?_
    refine jv_get X dX1_maskOf_12 hb (T := TX1) (N := 3) (C := RX1) rfl in_X1 0 (by decide) q179 rfl rfl ?_
    refine jv_aload_n X dX1_maskOf_15 1 rfl ?_
    refine jv_ask (jr_ranged (rest := [.ref lp]) X dX1_maskOf_16 q872 ha_ (Nat.le_of_ble_eq_true rfl) (Nat.le_of_ble_eq_true rfl) (Nat.le_of_ble_eq_true rfl) (Nat.le_of_ble_eq_true rfl) (Nat.le_of_ble_eq_true rfl)) ?_
    rw [show rgI S r = nI (rgp S r) from if_neg (rgI_n c4)]
    refine jv_callr (jv_runV (As := [.int (nI (rgp S r))]) (rest := []) X dX1_maskOf_19 (c_J2_get hlp hep (rgp S r) (P (rgp S r)) (by omega) (by omega) (by omega) (by rw [hfp _ (by omega)]; rfl)) (lw_V q866 q533 q534 q94 q535) hd_J2_get hlp rfl (Nat.le_of_ble_eq_true rfl) (Nat.le_of_ble_eq_true rfl) (Nat.le_of_ble_eq_true rfl) (Nat.le_of_ble_eq_true rfl) rfl (Nat.le_of_ble_eq_true rfl)) (fun rr_ M_ h_ => ?_)
    obtain ⟨hr_, hm_⟩ := h_
    rw [hr_, hm_]
    clear hr_ hm_
    obtain ⟨lv_2, V_2, hpk_2, -, ⟨mv_2, ev_2, fv_2, hlv_2, hev_2, hnv_2, hfv_2, -, -, -⟩, hvv_2⟩ := hP (rgp S r) (by omega)
    have hnv5_2 := hW.nv (show (rgp S r) < 6 by omega)
    refine jv_castS X dX1_maskOf_22 hpk_2 (r := (RX3, TX3, 2)) rfl q339 ?_
    refine jv_aload_n X dX1_maskOf_25 1 rfl ?_
    refine jr_range X dX1_maskOf_26 q715 ha_ (rgI_n c4) ?_
    refine jv_ask (jv_runV (As := [.int (nI (v_ofRule S r 4))]) (rest := []) X dX1_maskOf_29 (c_X3_covers (hP (rgp S r) (by omega)) hW (by omega) (v_ofRule S r 4) (hW.r4 (by omega))) (lw_V q885 q645 q646 q102 q647) hd_X3_covers hpk_2 rfl (Nat.le_of_ble_eq_true rfl) (Nat.le_of_ble_eq_true rfl) (by omega) (by omega) rfl (Nat.le_of_ble_eq_true rfl)) ?_
    exact jv_iret (v := nI (cov S (rgp S r) (v_ofRule S r 4))) X dX1_maskOf_32 rfl hQ (Nat.le_of_ble_eq_true rfl) (Nat.le_of_ble_eq_true rfl) ⟨(by unfold msk; rw [if_neg (rgI_n c4)]), rfl⟩
  · skip
    refine jv_iconst (v := nI 0) X dX1_maskOf_7 rfl ?_
    refine jv_goto 32 X dX1_maskOf_8 (by decide) ?_
    exact jv_iret (v := nI 0) X dX1_maskOf_32 rfl hQ (Nat.le_of_ble_eq_true rfl) (Nat.le_of_ble_eq_true rfl) ⟨(by unfold msk; rw [if_pos (rgI_3 hW (by omega) c4)]), rfl⟩
theorem hd_X1_masks : jv_dd yX1_masks 0 := by unfold jv_dd; decide +kernel
set_option maxHeartbeats 4000000 in
theorem c_X1_masks {l : Launch} {G : jv_G} {M : jv_M} {σ : jk_A} (hG : jk_G G σ) {τ : Nat → Nat} {b : Nat} {S : Nat → Nat} (hB : jbd G M τ b S) (hS : wfS S) (hL : wfL S)   : jv_Ct G l yX1_masks cX1_masks 3 (some (.array .int)) 9 301 930 281 [.ref b] M (jv_qr G (fun r M' => M r = none ∧ G.1 ≤ r ∧ ∃ g : Nat → Int32, M' = jv_up M r (.inl (G.2.2.1 0, S 1, .inl g)) ∧ ∀ k, k < S 1 → g k = nI (msk S k))) := by
  refine jv_Ct.of (lv := [(0, .ref b)]) (by decide) (Nat.le_of_ble_eq_true rfl) rfl ?_
  intro x Q_ hl_ hQ X
  subst hl_
  have hB_ := hB
  obtain ⟨lp, lr, la, P, R, A, hb, hfb, ⟨⟨mp_, ep, fp, hlp, hep, hn6, hfp, -, -, -⟩, hP⟩, ⟨⟨mr_, er, fr_, hlr, her, hn30, hfr_, -, -, -⟩, hR⟩, ⟨ma_, ea, fa, hla, hea, hn6a, hfa, -, -, -⟩, hA⟩ := hB
  have hW := hS.1
  have hp0 := hW.p
  have hr0 := hW.r
  have ha0 := hW.a
  refine jv_aload_n X dX1_masks_0 0 rfl ?_
  refine jv_get X dX1_masks_1 hb (T := TX1) (N := 3) (C := RX1) rfl in_X1 1 (by decide) q184 rfl rfl ?_
  refine jv_ask (jv_runV (As := []) (rest := []) X dX1_masks_4 (c_J2_size hlr) (lw_V q733 q284 q285 q94 q286) hd_J2_size hlr rfl (Nat.le_of_ble_eq_true rfl) (Nat.le_of_ble_eq_true rfl) (Nat.le_of_ble_eq_true rfl) (Nat.le_of_ble_eq_true rfl) rfl (Nat.le_of_ble_eq_true rfl)) ?_
  refine jv_newi (N := S 1) (k1 := 1) (n1 := 0 + S 1) X dX1_masks_7 q563 (Int32.not_lt.mpr (nI_pos' (by omega))) (nI_clamp (by omega)) (by omega) rfl rfl (Nat.le_of_ble_eq_true rfl) (by omega) (fun q_1 hnq_1 hbq_1 => ?_)
  refine jv_widen (k' := 1) (n' := 30) (Nat.le_refl _) (by omega) ?_
  refine jv_astore_n (lv' := [(1, .ref q_1), (0, .ref b)]) X dX1_masks_9 rfl (by decide) rfl ?_
  refine jv_iconst (v := nI 0) X dX1_masks_10 rfl ?_
  refine jv_istore_n (lv' := [(2, .int (nI 0)), (1, .ref q_1), (0, .ref b)]) X dX1_masks_11 rfl (by decide) rfl ?_
  have lp12_2 : ∀ (d_12 : Nat) (i : Nat) (g_ : Nat → Int32), i ≤ S 1 → (∀ k, k < i → g_ k = nI (msk S k)) → S 1 - i < d_12 → jv_J x G 3 Q_ (jv_up M q_1 (.inl (G.2.2.1 0, S 1, .inl g_))) (1 + 10 * i) (30 + 30 * i) 12 [(0, .ref b), (1, .ref q_1), (2, .int (nI i))] [] := by
    intro d_12
    induction d_12 with
    | zero => intro i g_ hi hg hm_12; exact absurd hm_12 (Nat.not_lt_zero _)
    | succ d_12 ih_12 =>
      intro i g_ hi hg hm_12
      refine jv_iload_n X dX1_masks_12 2 rfl ?_
      refine jv_aload_n X dX1_masks_13 1 rfl ?_
      refine jv_alen (t0 := 0) (v := nI (S 1)) X dX1_masks_14 jv_up_s rfl rfl ?_
      refine jn_icmp_ge 42 X dX1_masks_15 (by decide) (by omega) (by omega) (fun c15 => ?_) (fun c15 => ?_)
      · skip
        refine jv_aload_n X dX1_masks_42 1 rfl ?_
        exact jv_aret X dX1_masks_43 (by first | exact Or.inl ⟨_, rfl⟩ | exact Or.inr ⟨_, rfl⟩) hQ (by omega) (by omega) ⟨hnq_1, hbq_1, g_, rfl, fun k hk => hg k (by omega)⟩
      · skip
        refine jv_aload_n X dX1_masks_18 1 rfl ?_
        refine jv_iload_n X dX1_masks_19 2 rfl ?_
        refine jv_aload_n X dX1_masks_20 0 rfl ?_
        refine jv_aload_n X dX1_masks_21 0 rfl ?_
        refine jv_get X dX1_masks_22 ((jag.new jag.rf hnq_1).c hb) (T := TX1) (N := 3) (C := RX1) rfl in_X1 1 (by decide) q184 rfl rfl ?_
        refine jv_iload_n X dX1_masks_25 2 rfl ?_
        refine jv_callr (jv_runV (As := [.int (nI i)]) (rest := [.ref b, .int (nI i), .ref q_1]) X dX1_masks_26 (c_J2_get ((jag.new jag.rf hnq_1).c hlr) ((jag.new jag.rf hnq_1).c her) i (R i) (by omega) (by omega) (by omega) (by rw [hfr_ _ (by omega)]; rfl)) (lw_V q866 q533 q534 q94 q535) hd_J2_get ((jag.new jag.rf hnq_1).c hlr) rfl (Nat.le_of_ble_eq_true rfl) (Nat.le_of_ble_eq_true rfl) (by omega) (by omega) rfl (Nat.le_of_ble_eq_true rfl)) (fun rr_ M_ h_ => ?_)
        obtain ⟨hr_, hm_⟩ := h_
        rw [hr_, hm_]
        clear hr_ hm_
        refine jr_cast X dX1_masks_29 q867 ((hR i (by omega)).sub (jag.new jag.rf hnq_1)) ?_
        refine jv_ask (jv_runV (As := [.ref (R i)]) (rest := [.int (nI i), .ref q_1]) X dX1_masks_32 (c_X1_maskOf hG (hB_.sub (jag.new jag.rf hnq_1) hp0) hS hL i (R i) (by omega) ((hR i (by omega)).sub (jag.new jag.rf hnq_1))) (lw_V q868 q869 q870 q91 q871) hd_X1_maskOf ((jag.new jag.rf hnq_1).c hb) rfl (Nat.le_of_ble_eq_true rfl) (Nat.le_of_ble_eq_true rfl) (by omega) (by omega) rfl (Nat.le_of_ble_eq_true rfl)) ?_
        refine jv_iast (g := upd g_ i (nI (msk S i))) X dX1_masks_35 jv_up_s hbq_1 (jn_in (by omega) (by omega)) (by rw [nI_clamp (by omega)]) ?_
        rw [jv_up_up]
        refine jv_iinc (v := nI (i + 1)) (lv' := [(2, .int (nI (i + 1))), (0, .ref b), (1, .ref q_1)]) X dX1_masks_36 2 rfl (nI_1 _) (by decide) rfl ?_
        refine jv_goto 12 X dX1_masks_39 (by decide) ?_
        refine jv_lv (lv' := [(0, .ref b), (1, .ref q_1), (2, .int (nI (i + 1)))]) [1, 2, 0] rfl ?_
        exact jv_widen (by omega) (by omega) (ih_12 (i + 1) (upd g_ i (nI (msk S i))) (by omega) (fun k hk => by
            by_cases e : k = i
            · rw [e]; simp [upd]
            · simp only [upd, if_neg e]; exact hg k (by omega)) (by omega))
  refine jv_lv (lv' := [(0, .ref b), (1, .ref q_1), (2, .int (nI 0))]) [2, 1, 0] rfl ?_
  exact jv_widen (Nat.le_refl _) (Nat.le_refl _) (lp12_2 (S 1 + 1) 0 (fun _ => 0) (Nat.zero_le _) (fun k hk => absurd hk (Nat.not_lt_zero _)) (by omega))
