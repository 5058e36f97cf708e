/-! changes, first -/
set_option maxRecDepth 100000
def dgN (g : Nat → Int32) : Nat → Bool
  | 0 => true
  | i + 1 => dgN g i && v_in (g i) (nI 0) (nI 9)
theorem dgN_f {g : Nat → Int32} {i : Nat} (h : v_in (g i) (nI 0) (nI 9) = false) : ∀ {n : Nat}, i < n → dgN g n = false
  | 0, hn => absurd hn (Nat.not_lt_zero _)
  | n + 1, hn => by
    unfold dgN
    by_cases e : i = n
    · rw [← e, h, Bool.and_false]
    · rw [dgN_f h (show i < n by omega)]; rfl
theorem lrn_s {S : Nat → Nat} {w : Int32} {a : Nat} : (lrn S w (a + 1)).2 = if hasI w (nI a) = true then ((lrn S w a).2.2, a + 1) else (lrn S w a).2 := by
  unfold hasI
  by_cases h : (w >>> (nI a &&& 31)) &&& nI 1 = nI 1
  · rw [if_pos h, if_pos rfl]
    show (if (w >>> (nI a &&& 31)) &&& nI 1 = nI 1 then ((lrn S w a).1 + (v_asm S a 1 + 1) * 7 ^ v_asm S a 0, (lrn S w a).2.2, a + 1) else lrn S w a).2 = _
    rw [if_pos h]
  · rw [if_neg h, if_neg (by decide)]
    show (if (w >>> (nI a &&& 31)) &&& nI 1 = nI 1 then ((lrn S w a).1 + (v_asm S a 1 + 1) * 7 ^ v_asm S a 0, (lrn S w a).2.2, a + 1) else lrn S w a).2 = _
    rw [if_neg h]
theorem hd_X0_kept : jv_dd yX0_kept 1 := by unfold jv_dd; decide +kernel
set_option maxHeartbeats 4000000 in
theorem c_X0_kept {l : Launch} {G : jv_G} {M : jv_M} {S : Nat → Nat} (m_ : Int32)  : jv_Ct G l yX0_kept cX0_kept 4 (some .int) 1 0 0 21 [.int m_] M (jv_qi G (jv_pi (nI ((lrn S m_ 6).2.1)) M)) := by
  refine jv_Ct.of (lv := [(0, .int m_)]) (by decide) (Nat.le_of_ble_eq_true rfl) rfl ?_
  intro x Q_ hl_ hQ X
  subst hl_
  refine jv_iconst (v := nI 0) X dX0_kept_0 rfl ?_
  refine jv_istore_n (lv' := [(1, .int (nI 0)), (0, .int m_)]) X dX0_kept_1 rfl (by decide) rfl ?_
  refine jv_iconst (v := nI 0) X dX0_kept_2 rfl ?_
  refine jv_istore_n (lv' := [(2, .int (nI 0)), (1, .int (nI 0)), (0, .int m_)]) X dX0_kept_3 rfl (by decide) rfl ?_
  refine jv_iconst (v := nI 0) X dX0_kept_4 rfl ?_
  refine jv_istore_n (lv' := [(3, .int (nI 0)), (2, .int (nI 0)), (1, .int (nI 0)), (0, .int m_)]) X dX0_kept_5 rfl (by decide) rfl ?_
  have lp6_1 : ∀ (d_6 : Nat) (i : Nat) (k_ : Nat) (l_ : Nat), i ≤ 6 → k_ = (lrn S m_ i).2.1 → l_ = (lrn S m_ i).2.2 → 6 - i < d_6 → jv_J x G 4 Q_ M 0 0 6 [(0, .int m_), (1, .int (nI k_)), (2, .int (nI l_)), (3, .int (nI i))] [] := by
    intro d_6
    induction d_6 with
    | zero => intro i k_ l_ hi hk hl hm_6; exact absurd hm_6 (Nat.not_lt_zero _)
    | succ d_6 ih_6 =>
      intro i k_ l_ hi hk hl hm_6
      refine jv_iload_n X dX0_kept_6 3 rfl ?_
      refine jv_bipush (v := nI 6) X dX0_kept_7 rfl ?_
      refine jn_icmp_ge 32 X dX0_kept_9 (by decide) (by omega) (by decide) (fun c9 => ?_) (fun c9 => ?_)
      · skip
        refine jv_iload_n X dX0_kept_32 1 rfl ?_
        exact jv_iret (v := nI k_) X dX0_kept_33 rfl hQ (Nat.le_of_ble_eq_true rfl) (Nat.le_of_ble_eq_true rfl) ⟨(by rw [hk, show i = 6 by omega]), rfl⟩
      · skip
        refine jv_iload_n X dX0_kept_12 0 rfl ?_
        refine jv_iload_n X dX0_kept_13 3 rfl ?_
        refine jv_ask (jv_runS (As := [.int m_, .int (nI i)]) (rest := []) X dX0_kept_14 (c_X0_has m_ (nI i)) (lw_S q676 q677 q90 q678) hd_X0_has (Nat.le_of_ble_eq_true rfl) (Nat.le_of_ble_eq_true rfl) (Nat.le_of_ble_eq_true rfl) (Nat.le_of_ble_eq_true rfl) rfl (Nat.le_of_ble_eq_true rfl)) ?_
        refine jb_if_eq 26 X dX0_kept_17 (by decide) (fun c17 => ?_) (fun c17 => ?_)
        · skip
          refine jv_iinc (v := nI (i + 1)) (lv' := [(3, .int (nI (i + 1))), (0, .int m_), (1, .int (nI k_)), (2, .int (nI l_))]) X dX0_kept_26 3 rfl (nI_1 _) (by decide) rfl ?_
          refine jv_goto 6 X dX0_kept_29 (by decide) ?_
          refine jv_lv (lv' := [(0, .int m_), (1, .int (nI k_)), (2, .int (nI l_)), (3, .int (nI (i + 1)))]) [1, 2, 3, 0] rfl ?_
          exact ih_6 (i + 1) k_ l_ (by omega) (by rw [lrn_s, if_neg (by rw [c17]; decide)]; exact hk) (by rw [lrn_s, if_neg (by rw [c17]; decide)]; exact hl) (by omega)
        · skip
          refine jv_iload_n X dX0_kept_20 2 rfl ?_
          refine jv_istore_n (lv' := [(1, .int (nI l_)), (0, .int m_), (2, .int (nI l_)), (3, .int (nI i))]) X dX0_kept_21 rfl (by decide) rfl ?_
          refine jv_iload_n X dX0_kept_22 3 rfl ?_
          refine jv_iconst (v := nI 1) X dX0_kept_23 rfl ?_
          refine jv_iadd (w := nI (i + 1)) X dX0_kept_24 (nI_add _ _) ?_
          refine jv_istore_n (lv' := [(2, .int (nI (i + 1))), (1, .int (nI l_)), (0, .int m_), (3, .int (nI i))]) X dX0_kept_25 rfl (by decide) rfl ?_
          refine jv_iinc (v := nI (i + 1)) (lv' := [(3, .int (nI (i + 1))), (2, .int (nI (i + 1))), (1, .int (nI l_)), (0, .int m_)]) X dX0_kept_26 3 rfl (nI_1 _) (by decide) rfl ?_
          refine jv_goto 6 X dX0_kept_29 (by decide) ?_
          refine jv_lv (lv' := [(0, .int m_), (1, .int (nI l_)), (2, .int (nI (i + 1))), (3, .int (nI (i + 1)))]) [3, 2, 1, 0] rfl ?_
          exact ih_6 (i + 1) l_ (i + 1) (by omega) (by rw [lrn_s, if_pos c17]; exact hl) (by rw [lrn_s, if_pos c17]) (by omega)
  refine jv_lv (lv' := [(0, .int m_), (1, .int (nI 0)), (2, .int (nI 0)), (3, .int (nI 0))]) [3, 2, 1, 0] rfl ?_
  exact lp6_1 (6 + 1) 0 0 0 (Nat.zero_le _) rfl rfl (by omega)
theorem hd_X0_areDigits : jv_dd yX0_areDigits 1 := by unfold jv_dd; decide +kernel
set_option maxHeartbeats 4000000 in
theorem c_X0_areDigits {l : Launch} {G : jv_G} {M : jv_M} {e : Nat} {f g : Nat → Int32} (he : M e = some (.inl (G.2.2.1 0, 3, .inl f))) (hfg : ∀ i, i < 3 → f i = g i)   : jv_Ct G l yX0_areDigits cX0_areDigits 5 (some .boolean) 1 0 0 22 [.ref e] M (jv_qi G (jv_pi (bI (dgN g 3)) M)) := by
  refine jv_Ct.of (lv := [(0, .ref e)]) (by decide) (Nat.le_of_ble_eq_true rfl) rfl ?_
  intro x Q_ hl_ hQ X
  subst hl_
  refine jv_aload_n X dX0_areDigits_0 0 rfl ?_
  refine jv_astore_n (lv' := [(1, .ref e), (0, .ref e)]) X dX0_areDigits_1 rfl (by decide) rfl ?_
  refine jv_aload_n X dX0_areDigits_2 0 rfl ?_
  refine jv_alen (t0 := 0) (v := nI 3) X dX0_areDigits_3 he rfl rfl ?_
  refine jv_istore_n (lv' := [(2, .int (nI 3)), (1, .ref e), (0, .ref e)]) X dX0_areDigits_4 rfl (by decide) rfl ?_
  refine jv_iconst (v := nI 0) X dX0_areDigits_5 rfl ?_
  refine jv_istore_n (lv' := [(3, .int (nI 0)), (2, .int (nI 3)), (1, .ref e), (0, .ref e)]) X dX0_areDigits_6 rfl (by decide) rfl ?_
  have lp7_1 : ∀ (d_7 : Nat) (i : Nat), i ≤ 3 → dgN g i = true → 3 - i < d_7 → jv_J x G 5 Q_ M 0 0 7 [(0, .ref e), (1, .ref e), (2, .int (nI 3)), (3, .int (nI i))] [] := by
    intro d_7
    induction d_7 with
    | zero => intro i hi hg hm_7; exact absurd hm_7 (Nat.not_lt_zero _)
    | succ d_7 ih_7 =>
      intro i hi hg hm_7
      refine jv_iload_n X dX0_areDigits_7 3 rfl ?_
      refine jv_iload_n X dX0_areDigits_8 2 rfl ?_
      refine jn_icmp_ge 36 X dX0_areDigits_9 (by decide) (by omega) (by decide) (fun c9 => ?_) (fun c9 => ?_)
      · skip
        refine jv_iconst (v := nI 1) X dX0_areDigits_36 rfl ?_
        exact jv_iret (v := bI true) X dX0_areDigits_37 (bI_nar _) hQ (Nat.le_of_ble_eq_true rfl) (Nat.le_of_ble_eq_true rfl) ⟨(congrArg bI (by rw [← hg, show i = 3 by omega])), rfl⟩
      · skip
        refine jv_aload_n X dX0_areDigits_12 1 rfl ?_
        refine jv_iload_n X dX0_areDigits_13 3 rfl ?_
        refine jv_iald (v := g i) X dX0_areDigits_14 he (jn_in (by omega) (by decide)) (by rw [nI_clamp (by omega)]; exact (hfg _ (by omega))) ?_
        refine jv_istore (lv' := [(4, .int (g i)), (0, .ref e), (1, .ref e), (2, .int (nI 3)), (3, .int (nI i))]) X dX0_areDigits_15 (by decide) rfl ?_
        refine jv_iload X dX0_areDigits_17 0 rfl ?_
        refine jv_iconst (v := nI 0) X dX0_areDigits_19 rfl ?_
        refine jv_bipush (v := nI 9) X dX0_areDigits_20 rfl ?_
        refine jv_ask (jv_runS (As := [.int (g i), .int (nI 0), .int (nI 9)]) (rest := []) X dX0_areDigits_22 (c_X0_isIn (g i) (nI 0) (nI 9)) (lw_S q516 q517 q90 q518) hd_X0_isIn (Nat.le_of_ble_eq_true rfl) (Nat.le_of_ble_eq_true rfl) (Nat.le_of_ble_eq_true rfl) (Nat.le_of_ble_eq_true rfl) rfl (Nat.le_of_ble_eq_true rfl)) ?_
        refine jb_if_ne 30 X dX0_areDigits_25 (by decide) (fun c25 => ?_) (fun c25 => ?_)
        · skip
          refine jv_iinc (v := nI (i + 1)) (lv' := [(3, .int (nI (i + 1))), (4, .int (g i)), (0, .ref e), (1, .ref e), (2, .int (nI 3))]) X dX0_areDigits_30 4 rfl (nI_1 _) (by decide) rfl ?_
          refine jv_goto 7 X dX0_areDigits_33 (by decide) ?_
          refine jv_lv (lv' := [(0, .ref e), (1, .ref e), (2, .int (nI 3)), (3, .int (nI (i + 1)))]) [2, 3, 4, 0] rfl ?_
          exact ih_7 (i + 1) (by omega) (by unfold dgN; rw [hg, c25]; rfl) (by omega)
        · skip
          refine jv_iconst (v := nI 0) X dX0_areDigits_28 rfl ?_
          exact jv_iret (v := bI false) X dX0_areDigits_29 (bI_nar _) hQ (Nat.le_of_ble_eq_true rfl) (Nat.le_of_ble_eq_true rfl) ⟨(congrArg bI (dgN_f c25 (by omega)).symm), rfl⟩
  refine jv_lv (lv' := [(0, .ref e), (1, .ref e), (2, .int (nI 3)), (3, .int (nI 0))]) [3, 2, 1, 0] rfl ?_
  exact lp7_1 (3 + 1) 0 (Nat.zero_le _) rfl (by omega)
theorem hd_X0_whyNoWant : jv_dd yX0_whyNoWant 2 := by unfold jv_dd; decide +kernel
set_option maxHeartbeats 4000000 in
theorem c_X0_whyNoWant {l : Launch} {G : jv_G} {M : jv_M} {σ : jk_A} (hG : jk_G G σ) {τ : Nat → Nat} {xa b pa ip rp : Nat} {sv : Option Nat} {eA_ fA_ : Int32} {S : Nat → Nat} (hx : M xa = some (.inr (0, [.ref b, .ref pa, .ref ip, .ref rp, va_rf sv,   .int eA_, .int fA_]))) (hB : jbd G M τ b S) (hS : wfS S) (hL : wfL S) (hPP : wfP S) (hV : wfV S) (p_ : Int32) (r_ : Int32)  : jv_Ct G l yX0_whyNoWant cX0_whyNoWant 3 (some .int) 2 1 3 43 [.ref xa, .int p_, .int r_] M (jv_qi G (jv_pi (fst3 (nob (v_isPack S p_)) (bad_ (v_isRange r_)) (ful (if 30 ≤ S 1 then false else true))) M)) := by
  refine jv_Ct.of (lv := [(0, .ref xa), (1, .int p_), (2, .int r_)]) (by decide) (Nat.le_of_ble_eq_true rfl) rfl ?_
  intro x Q_ hl_ hQ X
  subst hl_
  have hB_ := hB
  obtain ⟨lp, lr, la, P, R, A, hb, hfb, ⟨⟨mp_, ep, fp, hlp, hep, hn6, hfp, -, -, -⟩, hP⟩, ⟨⟨mr_, er, fr_, hlr, her, hn30, hfr_, -, -, -⟩, hR⟩, ⟨ma_, ea, fa, hla, hea, hn6a, hfa, -, -, -⟩, hA⟩ := hB
  have hW := hS.1
  have hp0 := hW.p
  have hr0 := hW.r
  have ha0 := hW.a
  refine jv_iconst (v := nI 3) X dX0_whyNoWant_0 rfl ?_
  refine jv_newi (N := 3) (k1 := 1) (n1 := 3) X dX0_whyNoWant_1 q563 (by decide) rfl (by decide) rfl rfl (Nat.le_of_ble_eq_true rfl) (Nat.le_of_ble_eq_true rfl) (fun q_1 hnq_1 hbq_1 => ?_)
  refine jv_dup X dX0_whyNoWant_3 rfl ?_
  refine jv_iconst (v := nI 0) X dX0_whyNoWant_4 rfl ?_
  refine jv_aload_n X dX0_whyNoWant_5 0 rfl ?_
  refine jv_aload_n X dX0_whyNoWant_6 0 rfl ?_
  refine jv_iload_n X dX0_whyNoWant_7 1 rfl ?_
  refine jv_ask (jv_runV (As := [.int p_]) (rest := [.ref xa, .int (nI 0), .ref q_1, .ref q_1]) X dX0_whyNoWant_8 (c_X0_isPack hG ((jag.new jag.rf hnq_1).c hx) (hB_.sub (jag.new jag.rf hnq_1) hp0) hS hL hPP p_) (lw_V q512 q514 qs7 q90 q515) hd_X0_isPack ((jag.new jag.rf hnq_1).c hx) rfl (Nat.le_of_ble_eq_true rfl) (Nat.le_of_ble_eq_true rfl) (by omega) (by omega) rfl (Nat.le_of_ble_eq_true rfl)) ?_
  refine jv_ask (jv_runV (As := [.int (bI (v_isPack S p_))]) (rest := [.int (nI 0), .ref q_1, .ref q_1]) X dX0_whyNoWant_11 (c_X0_nobody (v_isPack S p_)) (lw_V q519 q521 qs8 q90 q522) hd_X0_nobody ((jag.new jag.rf hnq_1).c hx) rfl (Nat.le_of_ble_eq_true rfl) (Nat.le_of_ble_eq_true rfl) (by omega) (by omega) rfl (Nat.le_of_ble_eq_true rfl)) ?_
  refine jv_iast (g := upd (fun _ => 0) 0 (nob (v_isPack S p_))) X dX0_whyNoWant_14 jv_up_s hbq_1 (jn_in (by decide) (by decide)) (by rw [nI_clamp (by decide)]) ?_
  rw [jv_up_up]
  refine jv_dup X dX0_whyNoWant_15 rfl ?_
  refine jv_iconst (v := nI 1) X dX0_whyNoWant_16 rfl ?_
  refine jv_iload_n X dX0_whyNoWant_17 2 rfl ?_
  refine jv_ask (jv_runS (As := [.int r_]) (rest := [.int (nI 1), .ref q_1, .ref q_1]) X dX0_whyNoWant_18 (c_X0_isRange r_) (lw_S q641 q642 q90 q643) hd_X0_isRange (Nat.le_of_ble_eq_true rfl) (Nat.le_of_ble_eq_true rfl) (by omega) (by omega) rfl (Nat.le_of_ble_eq_true rfl)) ?_
  refine jv_ask (jv_runS (As := [.int (bI (v_isRange r_))]) (rest := [.int (nI 1), .ref q_1, .ref q_1]) X dX0_whyNoWant_21 (c_X0_bad (v_isRange r_)) (lw_S q526 q527 q90 q528) hd_X0_bad (Nat.le_of_ble_eq_true rfl) (Nat.le_of_ble_eq_true rfl) (by omega) (by omega) rfl (Nat.le_of_ble_eq_true rfl)) ?_
  refine jv_iast (g := upd (upd (fun _ => 0) 0 (nob (v_isPack S p_))) 1 (bad_ (v_isRange r_))) X dX0_whyNoWant_24 jv_up_s hbq_1 (jn_in (by decide) (by decide)) (by rw [nI_clamp (by decide)]) ?_
  rw [jv_up_up]
  refine jv_dup X dX0_whyNoWant_25 rfl ?_
  refine jv_iconst (v := nI 2) X dX0_whyNoWant_26 rfl ?_
  refine jv_aload_n X dX0_whyNoWant_27 0 rfl ?_
  refine jv_get X dX0_whyNoWant_28 ((jag.new jag.rf hnq_1).c hx) (T := TX0) (N := 7) (C := RX0) rfl in_X0 0 (by decide) q257 rfl rfl ?_
  refine jv_getN X dX0_whyNoWant_31 ((jag.new jag.rf hnq_1).c hb) (T := TX1) (N := 3) (C := RX1) rfl in_X1 1 (by decide) q188 rfl rfl ?_
  refine jv_ask (jv_runV (As := []) (rest := [.int (nI 2), .ref q_1, .ref q_1]) X dX0_whyNoWant_34 (c_J2_size ((jag.new jag.rf hnq_1).c hlr)) (lw_V q283 q284 q285 q94 q286) hd_J2_size ((jag.new jag.rf hnq_1).c hlr) rfl (Nat.le_of_ble_eq_true rfl) (Nat.le_of_ble_eq_true rfl) (by omega) (by omega) rfl (Nat.le_of_ble_eq_true rfl)) ?_
  refine jv_bipush (v := nI 30) X dX0_whyNoWant_37 rfl ?_
  have j47_2 : ∀ w : Bool, w = (if 30 ≤ (S 1) then false else true) → jv_J x G 3 Q_ (jv_up M q_1 (.inl (G.2.2.1 0, 3, .inl (upd (upd (fun _ => 0) 0 (nob (v_isPack S p_))) 1 (bad_ (v_isRange r_)))))) 1 3 47 [(0, .ref xa), (1, .int p_), (2, .int r_)] [.int (bI w), .int (nI 2), .ref q_1, .ref q_1] := by
    intro w e_w
    refine jv_ask (jv_runS (As := [.int (bI w)]) (rest := [.int (nI 2), .ref q_1, .ref q_1]) X dX0_whyNoWant_47 (c_X0_full w) (lw_S q589 q590 q90 q591) hd_X0_full (Nat.le_of_ble_eq_true rfl) (Nat.le_of_ble_eq_true rfl) (by omega) (by omega) rfl (Nat.le_of_ble_eq_true rfl)) ?_
    refine jv_iast (g := upd (upd (upd (fun _ => 0) 0 (nob (v_isPack S p_))) 1 (bad_ (v_isRange r_))) 2 (ful w)) X dX0_whyNoWant_50 jv_up_s hbq_1 (jn_in (by decide) (by decide)) (by rw [nI_clamp (by decide)]) ?_
    rw [jv_up_up]
    refine jv_ask (jv_runS (As := [.ref q_1]) (rest := []) X dX0_whyNoWant_51 (c_X0_first_3 jv_up_s (nob (v_isPack S p_)) (bad_ (v_isRange r_)) (ful w) rfl rfl rfl) (lw_S q529 q530 q90 q531) hd_X0_first (Nat.le_of_ble_eq_true rfl) (Nat.le_of_ble_eq_true rfl) (by omega) (by omega) rfl (Nat.le_of_ble_eq_true rfl)) ?_
    refine jv_fewer (jag.few (jag.new jag.rf hnq_1)) ?_
    exact jv_iret (v := fst3 (nob (v_isPack S p_)) (bad_ (v_isRange r_)) (ful w)) X dX0_whyNoWant_54 rfl hQ (Nat.le_of_ble_eq_true rfl) (Nat.le_of_ble_eq_true rfl) ⟨(by rw [e_w]), rfl⟩
  refine jn_icmp_ge 46 X dX0_whyNoWant_39 (by decide) (by omega) (by decide) (fun c39 => ?_) (fun c39 => ?_)
  · skip
    refine jv_iconst (v := nI 0) X dX0_whyNoWant_46 rfl ?_
    exact j47_2 _ (if_pos c39).symm
  · skip
    refine jv_iconst (v := nI 1) X dX0_whyNoWant_42 rfl ?_
    refine jv_goto 47 X dX0_whyNoWant_43 (by decide) ?_
    exact j47_2 _ (if_neg (Nat.not_le.mpr c39)).symm
theorem hd_X12_init : jv_dd yX12_init 2 := by unfold jv_dd; decide +kernel
set_option maxHeartbeats 4000000 in
theorem c_X12_init {l : Launch} {G : jv_G} {M : jv_M} {a : Nat} (hf : G.1 ≤ a) (ha : M a = some (.inr (10, [.int 0, .int 0]))) (p : Nat) (s : Nat)  : jv_Ct G l yX12_init cX12_init 3 (none) 1 0 0 30 [.ref a, .int (nI p), .int (nI s)] M (jv_qv G (fun M' => M' = jv_up M a (.inr (10, [.int (nI p), .int (nI s)])))) := by
  refine jv_Ct.of (lv := [(0, .ref a), (1, .int (nI p)), (2, .int (nI s))]) (by decide) (Nat.le_of_ble_eq_true rfl) rfl ?_
  intro x Q_ hl_ hQ X
  subst hl_
  refine jv_aload_n X dX12_init_0 0 rfl ?_
  refine jv_obj0 X dX12_init_1 q1111 (Nat.le_of_ble_eq_true rfl) (Nat.le_of_ble_eq_true rfl) ?_
  refine jv_aload_n X dX12_init_4 0 rfl ?_
  refine jv_iload_n X dX12_init_5 1 rfl ?_
  refine jv_putF (fs' := [.int (nI p), .int 0]) X dX12_init_6 ha hf (T := TX12) (N := 2) (C := RX12) rfl in_X12 tyX12 tyX12_ok nmX12 0 (by decide) q1112 rfl rfl rfl rfl rfl rfl rfl (show 0 < 2 from by decide) rfl ?_
  refine jv_aload_n X dX12_init_9 0 rfl ?_
  refine jv_iload_n X dX12_init_10 2 rfl ?_
  refine jv_putF (fs' := [.int (nI p), .int (nI s)]) X dX12_init_11 jv_up_s hf (T := TX12) (N := 2) (C := RX12) rfl in_X12 tyX12 tyX12_ok nmX12 1 (by decide) q1118 rfl rfl rfl rfl rfl rfl rfl (show 1 < 2 from by decide) rfl ?_
  rw [jv_up_up]
  exact jv_vret X dX12_init_14 hQ (Nat.le_of_ble_eq_true rfl) (Nat.le_of_ble_eq_true rfl) rfl
theorem hd_X5_init : jv_dd yX5_init 1 := by unfold jv_dd; decide +kernel
set_option maxHeartbeats 4000000 in
theorem c_X5_init_X6 {l : Launch} {G : jv_G} {M : jv_M} {a : Nat} (hf : G.1 ≤ a) {e : Nat} {f : Nat → Int32} (he : M e = some (.inl (G.2.2.1 0, 4, .inl f))) (ha : M a = some (.inr (5, [.int 0, .int 0, .int 0, .int 0]))) (v0 : Int32) (v1 : Int32) (v2 : Int32) (v3 : Int32) (h0 : f 0 = v0) (h1 : f 1 = v1) (h2 : f 2 = v2) (h3 : f 3 = v3) : jv_Ct G l yX5_init cX5_init 2 (none) 1 0 0 30 [.ref a, .ref e] M (jv_qv G (fun M' => M' = jv_up M a (.inr (5, [.int v0, .int v1, .int v2, .int v3])))) := by
  refine jv_Ct.of (lv := [(0, .ref a), (1, .ref e)]) (by decide) (Nat.le_of_ble_eq_true rfl) rfl ?_
  intro x Q_ hl_ hQ X
  subst hl_
  refine jv_aload_n X dX5_init_0 0 rfl ?_
  refine jv_obj0 X dX5_init_1 q700 (Nat.le_of_ble_eq_true rfl) (Nat.le_of_ble_eq_true rfl) ?_
  refine jv_aload_n X dX5_init_4 0 rfl ?_
  refine jv_aload_n X dX5_init_5 1 rfl ?_
  refine jv_iconst (v := nI 0) X dX5_init_6 rfl ?_
  refine jv_iald (v := v0) X dX5_init_7 he (jn_in (by decide) (by decide)) (by rw [nI_clamp (by decide)]; exact h0) ?_
  refine jv_putF (fs' := [.int v0, .int 0, .int 0, .int 0]) X dX5_init_8 ha hf (T := TX6) (N := 4) (C := RX6) rfl in_X6 tyX6 tyX6_ok nmX6 0 (by decide) q701 rfl rfl rfl rfl rfl rfl rfl (show 0 < 4 from by decide) rfl ?_
  refine jv_aload_n X dX5_init_11 0 rfl ?_
  refine jv_aload_n X dX5_init_12 1 rfl ?_
  refine jv_iconst (v := nI 1) X dX5_init_13 rfl ?_
  refine jv_iald (v := v1) X dX5_init_14 ((jv_up_n (ck_ne he ha rfl)).trans he) (jn_in (by decide) (by decide)) (by rw [nI_clamp (by decide)]; exact h1) ?_
  refine jv_putF (fs' := [.int v0, .int v1, .int 0, .int 0]) X dX5_init_15 jv_up_s hf (T := TX6) (N := 4) (C := RX6) rfl in_X6 tyX6 tyX6_ok nmX6 1 (by decide) q706 rfl rfl rfl rfl rfl rfl rfl (show 1 < 4 from by decide) rfl ?_
  rw [jv_up_up]
  refine jv_aload_n X dX5_init_18 0 rfl ?_
  refine jv_aload_n X dX5_init_19 1 rfl ?_
  refine jv_iconst (v := nI 2) X dX5_init_20 rfl ?_
  refine jv_iald (v := v2) X dX5_init_21 ((jv_up_n (ck_ne he ha rfl)).trans he) (jn_in (by decide) (by decide)) (by rw [nI_clamp (by decide)]; exact h2) ?_
  refine jv_putF (fs' := [.int v0, .int v1, .int v2, .int 0]) X dX5_init_22 jv_up_s hf (T := TX6) (N := 4) (C := RX6) rfl in_X6 tyX6 tyX6_ok nmX6 2 (by decide) q709 rfl rfl rfl rfl rfl rfl rfl (show 2 < 4 from by decide) rfl ?_
  rw [jv_up_up]
  refine jv_aload_n X dX5_init_25 0 rfl ?_
  refine jv_aload_n X dX5_init_26 1 rfl ?_
  refine jv_iconst (v := nI 3) X dX5_init_27 rfl ?_
  refine jv_iald (v := v3) X dX5_init_28 ((jv_up_n (ck_ne he ha rfl)).trans he) (jn_in (by decide) (by decide)) (by rw [nI_clamp (by decide)]; exact h3) ?_
  refine jv_putF (fs' := [.int v0, .int v1, .int v2, .int v3]) X dX5_init_29 jv_up_s hf (T := TX6) (N := 4) (C := RX6) rfl in_X6 tyX6 tyX6_ok nmX6 3 (by decide) q714 rfl rfl rfl rfl rfl rfl rfl (show 3 < 4 from by decide) rfl ?_
  rw [jv_up_up]
  exact jv_vret X dX5_init_32 hQ (Nat.le_of_ble_eq_true rfl) (Nat.le_of_ble_eq_true rfl) rfl
set_option maxHeartbeats 4000000 in
theorem c_X5_init_X8 {l : Launch} {G : jv_G} {M : jv_M} {a : Nat} (hf : G.1 ≤ a) {e : Nat} {f : Nat → Int32} (he : M e = some (.inl (G.2.2.1 0, 4, .inl f))) (ha : M a = some (.inr (6, [.int 0, .int 0, .int 0, .int 0]))) (v0 : Int32) (v1 : Int32) (v2 : Int32) (v3 : Int32) (h0 : f 0 = v0) (h1 : f 1 = v1) (h2 : f 2 = v2) (h3 : f 3 = v3) : jv_Ct G l yX5_init cX5_init 2 (none) 1 0 0 30 [.ref a, .ref e] M (jv_qv G (fun M' => M' = jv_up M a (.inr (6, [.int v0, .int v1, .int v2, .int v3])))) := by
  refine jv_Ct.of (lv := [(0, .ref a), (1, .ref e)]) (by decide) (Nat.le_of_ble_eq_true rfl) rfl ?_
  intro x Q_ hl_ hQ X
  subst hl_
  refine jv_aload_n X dX5_init_0 0 rfl ?_
  refine jv_obj0 X dX5_init_1 q700 (Nat.le_of_ble_eq_true rfl) (Nat.le_of_ble_eq_true rfl) ?_
  refine jv_aload_n X dX5_init_4 0 rfl ?_
  refine jv_aload_n X dX5_init_5 1 rfl ?_
  refine jv_iconst (v := nI 0) X dX5_init_6 rfl ?_
  refine jv_iald (v := v0) X dX5_init_7 he (jn_in (by decide) (by decide)) (by rw [nI_clamp (by decide)]; exact h0) ?_
  refine jv_putF (fs' := [.int v0, .int 0, .int 0, .int 0]) X dX5_init_8 ha hf (T := TX8) (N := 4) (C := RX8) rfl in_X8 tyX8 tyX8_ok nmX8 0 (by decide) q701 rfl rfl rfl rfl rfl rfl rfl (show 0 < 4 from by decide) rfl ?_
  refine jv_aload_n X dX5_init_11 0 rfl ?_
  refine jv_aload_n X dX5_init_12 1 rfl ?_
  refine jv_iconst (v := nI 1) X dX5_init_13 rfl ?_
  refine jv_iald (v := v1) X dX5_init_14 ((jv_up_n (ck_ne he ha rfl)).trans he) (jn_in (by decide) (by decide)) (by rw [nI_clamp (by decide)]; exact h1) ?_
  refine jv_putF (fs' := [.int v0, .int v1, .int 0, .int 0]) X dX5_init_15 jv_up_s hf (T := TX8) (N := 4) (C := RX8) rfl in_X8 tyX8 tyX8_ok nmX8 1 (by decide) q706 rfl rfl rfl rfl rfl rfl rfl (show 1 < 4 from by decide) rfl ?_
  rw [jv_up_up]
  refine jv_aload_n X dX5_init_18 0 rfl ?_
  refine jv_aload_n X dX5_init_19 1 rfl ?_
  refine jv_iconst (v := nI 2) X dX5_init_20 rfl ?_
  refine jv_iald (v := v2) X dX5_init_21 ((jv_up_n (ck_ne he ha rfl)).trans he) (jn_in (by decide) (by decide)) (by rw [nI_clamp (by decide)]; exact h2) ?_
  refine jv_putF (fs' := [.int v0, .int v1, .int v2, .int 0]) X dX5_init_22 jv_up_s hf (T := TX8) (N := 4) (C := RX8) rfl in_X8 tyX8 tyX8_ok nmX8 2 (by decide) q709 rfl rfl rfl rfl rfl rfl rfl (show 2 < 4 from by decide) rfl ?_
  rw [jv_up_up]
  refine jv_aload_n X dX5_init_25 0 rfl ?_
  refine jv_aload_n X dX5_init_26 1 rfl ?_
  refine jv_iconst (v := nI 3) X dX5_init_27 rfl ?_
  refine jv_iald (v := v3) X dX5_init_28 ((jv_up_n (ck_ne he ha rfl)).trans he) (jn_in (by decide) (by decide)) (by rw [nI_clamp (by decide)]; exact h3) ?_
  refine jv_putF (fs' := [.int v0, .int v1, .int v2, .int v3]) X dX5_init_29 jv_up_s hf (T := TX8) (N := 4) (C := RX8) rfl in_X8 tyX8 tyX8_ok nmX8 3 (by decide) q714 rfl rfl rfl rfl rfl rfl rfl (show 3 < 4 from by decide) rfl ?_
  rw [jv_up_up]
  exact jv_vret X dX5_init_32 hQ (Nat.le_of_ble_eq_true rfl) (Nat.le_of_ble_eq_true rfl) rfl
set_option maxHeartbeats 4000000 in
theorem c_X5_init_X9 {l : Launch} {G : jv_G} {M : jv_M} {a : Nat} (hf : G.1 ≤ a) {e : Nat} {f : Nat → Int32} (he : M e = some (.inl (G.2.2.1 0, 4, .inl f))) (ha : M a = some (.inr (7, [.int 0, .int 0, .int 0, .int 0]))) (v0 : Int32) (v1 : Int32) (v2 : Int32) (v3 : Int32) (h0 : f 0 = v0) (h1 : f 1 = v1) (h2 : f 2 = v2) (h3 : f 3 = v3) : jv_Ct G l yX5_init cX5_init 2 (none) 1 0 0 30 [.ref a, .ref e] M (jv_qv G (fun M' => M' = jv_up M a (.inr (7, [.int v0, .int v1, .int v2, .int v3])))) := by
  refine jv_Ct.of (lv := [(0, .ref a), (1, .ref e)]) (by decide) (Nat.le_of_ble_eq_true rfl) rfl ?_
  intro x Q_ hl_ hQ X
  subst hl_
  refine jv_aload_n X dX5_init_0 0 rfl ?_
  refine jv_obj0 X dX5_init_1 q700 (Nat.le_of_ble_eq_true rfl) (Nat.le_of_ble_eq_true rfl) ?_
  refine jv_aload_n X dX5_init_4 0 rfl ?_
  refine jv_aload_n X dX5_init_5 1 rfl ?_
  refine jv_iconst (v := nI 0) X dX5_init_6 rfl ?_
  refine jv_iald (v := v0) X dX5_init_7 he (jn_in (by decide) (by decide)) (by rw [nI_clamp (by decide)]; exact h0) ?_
  refine jv_putF (fs' := [.int v0, .int 0, .int 0, .int 0]) X dX5_init_8 ha hf (T := TX9) (N := 4) (C := RX9) rfl in_X9 tyX9 tyX9_ok nmX9 0 (by decide) q701 rfl rfl rfl rfl rfl rfl rfl (show 0 < 4 from by decide) rfl ?_
  refine jv_aload_n X dX5_init_11 0 rfl ?_
  refine jv_aload_n X dX5_init_12 1 rfl ?_
  refine jv_iconst (v := nI 1) X dX5_init_13 rfl ?_
  refine jv_iald (v := v1) X dX5_init_14 ((jv_up_n (ck_ne he ha rfl)).trans he) (jn_in (by decide) (by decide)) (by rw [nI_clamp (by decide)]; exact h1) ?_
  refine jv_putF (fs' := [.int v0, .int v1, .int 0, .int 0]) X dX5_init_15 jv_up_s hf (T := TX9) (N := 4) (C := RX9) rfl in_X9 tyX9 tyX9_ok nmX9 1 (by decide) q706 rfl rfl rfl rfl rfl rfl rfl (show 1 < 4 from by decide) rfl ?_
  rw [jv_up_up]
  refine jv_aload_n X dX5_init_18 0 rfl ?_
  refine jv_aload_n X dX5_init_19 1 rfl ?_
  refine jv_iconst (v := nI 2) X dX5_init_20 rfl ?_
  refine jv_iald (v := v2) X dX5_init_21 ((jv_up_n (ck_ne he ha rfl)).trans he) (jn_in (by decide) (by decide)) (by rw [nI_clamp (by decide)]; exact h2) ?_
  refine jv_putF (fs' := [.int v0, .int v1, .int v2, .int 0]) X dX5_init_22 jv_up_s hf (T := TX9) (N := 4) (C := RX9) rfl in_X9 tyX9 tyX9_ok nmX9 2 (by decide) q709 rfl rfl rfl rfl rfl rfl rfl (show 2 < 4 from by decide) rfl ?_
  rw [jv_up_up]
  refine jv_aload_n X dX5_init_25 0 rfl ?_
  refine jv_aload_n X dX5_init_26 1 rfl ?_
  refine jv_iconst (v := nI 3) X dX5_init_27 rfl ?_
  refine jv_iald (v := v3) X dX5_init_28 ((jv_up_n (ck_ne he ha rfl)).trans he) (jn_in (by decide) (by decide)) (by rw [nI_clamp (by decide)]; exact h3) ?_
  refine jv_putF (fs' := [.int v0, .int v1, .int v2, .int v3]) X dX5_init_29 jv_up_s hf (T := TX9) (N := 4) (C := RX9) rfl in_X9 tyX9 tyX9_ok nmX9 3 (by decide) q714 rfl rfl rfl rfl rfl rfl rfl (show 3 < 4 from by decide) rfl ?_
  rw [jv_up_up]
  exact jv_vret X dX5_init_32 hQ (Nat.le_of_ble_eq_true rfl) (Nat.le_of_ble_eq_true rfl) rfl
set_option maxHeartbeats 4000000 in
theorem c_X5_init_X13 {l : Launch} {G : jv_G} {M : jv_M} {a : Nat} (hf : G.1 ≤ a) {e : Nat} {f : Nat → Int32} (he : M e = some (.inl (G.2.2.1 0, 4, .inl f))) (ha : M a = some (.inr (11, [.int 0, .int 0, .int 0, .int 0, .null]))) (v0 : Int32) (v1 : Int32) (v2 : Int32) (v3 : Int32) (h0 : f 0 = v0) (h1 : f 1 = v1) (h2 : f 2 = v2) (h3 : f 3 = v3) : jv_Ct G l yX5_init cX5_init 2 (none) 1 0 0 30 [.ref a, .ref e] M (jv_qv G (fun M' => M' = jv_up M a (.inr (11, [.int v0, .int v1, .int v2, .int v3, .null])))) := by
  refine jv_Ct.of (lv := [(0, .ref a), (1, .ref e)]) (by decide) (Nat.le_of_ble_eq_true rfl) rfl ?_
  intro x Q_ hl_ hQ X
  subst hl_
  refine jv_aload_n X dX5_init_0 0 rfl ?_
  refine jv_obj0 X dX5_init_1 q700 (Nat.le_of_ble_eq_true rfl) (Nat.le_of_ble_eq_true rfl) ?_
  refine jv_aload_n X dX5_init_4 0 rfl ?_
  refine jv_aload_n X dX5_init_5 1 rfl ?_
  refine jv_iconst (v := nI 0) X dX5_init_6 rfl ?_
  refine jv_iald (v := v0) X dX5_init_7 he (jn_in (by decide) (by decide)) (by rw [nI_clamp (by decide)]; exact h0) ?_
  refine jv_putF (fs' := [.int v0, .int 0, .int 0, .int 0, .null]) X dX5_init_8 ha hf (T := TX13) (N := 5) (C := RX13) rfl in_X13 tyX13 tyX13_ok nmX13 0 (by decide) q701 rfl rfl rfl rfl rfl rfl rfl (show 0 < 5 from by decide) rfl ?_
  refine jv_aload_n X dX5_init_11 0 rfl ?_
  refine jv_aload_n X dX5_init_12 1 rfl ?_
  refine jv_iconst (v := nI 1) X dX5_init_13 rfl ?_
  refine jv_iald (v := v1) X dX5_init_14 ((jv_up_n (ck_ne he ha rfl)).trans he) (jn_in (by decide) (by decide)) (by rw [nI_clamp (by decide)]; exact h1) ?_
  refine jv_putF (fs' := [.int v0, .int v1, .int 0, .int 0, .null]) X dX5_init_15 jv_up_s hf (T := TX13) (N := 5) (C := RX13) rfl in_X13 tyX13 tyX13_ok nmX13 1 (by decide) q706 rfl rfl rfl rfl rfl rfl rfl (show 1 < 5 from by decide) rfl ?_
  rw [jv_up_up]
  refine jv_aload_n X dX5_init_18 0 rfl ?_
  refine jv_aload_n X dX5_init_19 1 rfl ?_
  refine jv_iconst (v := nI 2) X dX5_init_20 rfl ?_
  refine jv_iald (v := v2) X dX5_init_21 ((jv_up_n (ck_ne he ha rfl)).trans he) (jn_in (by decide) (by decide)) (by rw [nI_clamp (by decide)]; exact h2) ?_
  refine jv_putF (fs' := [.int v0, .int v1, .int v2, .int 0, .null]) X dX5_init_22 jv_up_s hf (T := TX13) (N := 5) (C := RX13) rfl in_X13 tyX13 tyX13_ok nmX13 2 (by decide) q709 rfl rfl rfl rfl rfl rfl rfl (show 2 < 5 from by decide) rfl ?_
  rw [jv_up_up]
  refine jv_aload_n X dX5_init_25 0 rfl ?_
  refine jv_aload_n X dX5_init_26 1 rfl ?_
  refine jv_iconst (v := nI 3) X dX5_init_27 rfl ?_
  refine jv_iald (v := v3) X dX5_init_28 ((jv_up_n (ck_ne he ha rfl)).trans he) (jn_in (by decide) (by decide)) (by rw [nI_clamp (by decide)]; exact h3) ?_
  refine jv_putF (fs' := [.int v0, .int v1, .int v2, .int v3, .null]) X dX5_init_29 jv_up_s hf (T := TX13) (N := 5) (C := RX13) rfl in_X13 tyX13 tyX13_ok nmX13 3 (by decide) q714 rfl rfl rfl rfl rfl rfl rfl (show 3 < 5 from by decide) rfl ?_
  rw [jv_up_up]
  exact jv_vret X dX5_init_32 hQ (Nat.le_of_ble_eq_true rfl) (Nat.le_of_ble_eq_true rfl) rfl
