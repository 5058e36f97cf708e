/-! gathered -/
set_option maxRecDepth 100000
theorem hd_X10_gathers : jv_dd yX10_gathers 2 := by unfold jv_dd; decide +kernel
set_option maxHeartbeats 4000000 in
theorem c_X10_gathers_z {l : Launch} {G : jv_G} {M : jv_M} {σ : jk_A} (hG : jk_G G σ) {B : jv_M} {τ : Nat → Nat} {b t : Nat} {S : Nat → Nat} {T : t_T2} (hB : jbd G B τ b S) (hS : wfS S) (hL : wfL S) (hPP : wfP S) (hT : jtr G σ B M S b t T) (hk : okT T) (hwT : wfT S T) (n_ : Nat) (d_ : Nat)  : jv_Ct G l yX10_gathers cX10_gathers 8 (some .long) (n_ + 20) 0 0 (27 * n_ + 400) [.ref t, .long (lN 0), .long (lN d_)] M (jv_ql G (jv_pl (lN d_) M)) := by
  refine jv_Ct.of (lv := [(0, .ref t), (1, .long (lN 0)), (3, .long (lN d_))]) (by decide) (Nat.le_of_ble_eq_true rfl) rfl ?_
  intro x Q_ hl_ hQ X
  subst hl_
  have hT_ := hT
  have hB0 := hB
  obtain ⟨ma, le, sl, N, e, mc, gm, gl, f, V, ⟨ht, hft, hnt⟩, ⟨hma, hfma, hnma, hgm⟩, ⟨hle, hfle, hnle, hgl⟩, hml, ⟨hdl, hnsl, hne⟩, hV, hag⟩ := hT
  obtain ⟨hsl, hfsl, hnN, hN60, hdl4⟩ := id hdl
  have hn36 := hk.1
  refine jv_lload_n X dX10_gathers_0 1 rfl ?_
  refine jv_lconst (v := lN 0) X dX10_gathers_1 rfl ?_
  refine jv_lcmp X dX10_gathers_2 ?_
  refine jc_if_ne 8 X dX10_gathers_3 (by decide) (by omega) (by decide) (fun c3 => ?_) (fun c3 => ?_)
  · skip
    exact (absurd rfl c3)
  · skip
    refine jv_lload_n X dX10_gathers_6 2 rfl ?_
    exact jv_lret X dX10_gathers_7 hQ (Nat.le_of_ble_eq_true rfl) (Nat.le_of_ble_eq_true rfl) ⟨rfl, rfl⟩
set_option maxHeartbeats 4000000 in
theorem c_X10_gathers_s {l : Launch} {G : jv_G} {M : jv_M} {σ : jk_A} (hG : jk_G G σ) {B : jv_M} {τ : Nat → Nat} {b t : Nat} {S : Nat → Nat} {T : t_T2} (hB : jbd G B τ b S) (hS : wfS S) (hL : wfL S) (hPP : wfP S) (hT : jtr G σ B M S b t T) (hk : okT T) (hwT : wfT S T) (n_ : Nat) (t_ : Nat) (d_ : Nat) (h0_ : ¬ t_ = 0) (hg : gok T (n_ + 1) t_ d_) (IH : ∀ t_ d_, gok T n_ t_ d_ → jv_Ct G l yX10_gathers cX10_gathers 8 (some .long) (n_ + 20) 0 0 (27 * n_ + 400) [.ref t, .long (lN t_), .long (lN d_)] M (jv_ql G (jv_pl (lN (gth S T n_ t_ d_)) M))) : jv_Ct G l yX10_gathers cX10_gathers 8 (some .long) ((n_ + 1) + 20) 0 0 (27 * (n_ + 1) + 400) [.ref t, .long (lN t_), .long (lN d_)] M (jv_ql G (jv_pl (lN (gth S T (n_ + 1) t_ d_)) M)) := by
  refine jv_Ct.of (lv := [(0, .ref t), (1, .long (lN t_)), (3, .long (lN d_))]) (by decide) (Nat.le_of_ble_eq_true rfl) rfl ?_
  intro x Q_ hl_ hQ X
  subst hl_
  have hT_ := hT
  have hB0 := hB
  obtain ⟨ma, le, sl, N, e, mc, gm, gl, f, V, ⟨ht, hft, hnt⟩, ⟨hma, hfma, hnma, hgm⟩, ⟨hle, hfle, hnle, hgl⟩, hml, ⟨hdl, hnsl, hne⟩, hV, hag⟩ := hT
  obtain ⟨hsl, hfsl, hnN, hN60, hdl4⟩ := id hdl
  have hn36 := hk.1
  have hg_ := hg.st (S := S) (by omega) h0_
  obtain ⟨c_, hm_, hl_⟩ := low_ex h0_ hg.2.1 (by omega)
  have ht64_ : t_ < 2 ^ 64 := (Nat.lt_of_lt_of_le hg.2.1 (Nat.pow_le_pow_right (by decide) (by omega)))
  have hd64_ : d_ < 2 ^ 64 := (Nat.lt_of_lt_of_le hg.2.2.1 (Nat.pow_le_pow_right (by decide) (by omega)))
  have hp64_ : 2 ^ low t_ < 2 ^ 64 := Nat.pow_lt_pow_right (by decide) (by omega)
  have hr64_ : rsN S T (low t_) < 2 ^ 64 := (Nat.lt_of_lt_of_le (rsN_lt (S := S) hl_) (Nat.pow_le_pow_right (by decide) (by omega)))
  refine jv_lload_n X dX10_gathers_0 1 rfl ?_
  refine jv_lconst (v := lN 0) X dX10_gathers_1 rfl ?_
  refine jv_lcmp X dX10_gathers_2 ?_
  refine jc_if_ne 8 X dX10_gathers_3 (by decide) (Nat.lt_of_lt_of_le hg.2.1 (Nat.pow_le_pow_right (by decide) (by omega))) (by decide) (fun c3 => ?_) (fun c3 => ?_)
  · skip
    refine jv_lload_n X dX10_gathers_8 1 rfl ?_
    refine jv_ask (jv_runS (As := [.long (lN t_)]) (rest := []) X dX10_gathers_9 (c_J14_numberOfTrailingZeros t_ (low t_) c_ hm_ (Nat.lt_of_lt_of_le hg.2.1 (Nat.pow_le_pow_right (by decide) (by omega)))) (lw_S q1066 q1067 q118 q1068) hd_J14_numberOfTrailingZeros (by omega) (by omega) (by omega) (by omega) rfl (Nat.le_of_ble_eq_true rfl)) ?_
    refine jv_istore (lv' := [(5, .int (nI (low t_))), (0, .ref t), (1, .long (lN t_)), (3, .long (lN d_))]) X dX10_gathers_12 (by decide) rfl ?_
    refine jv_lload_n X dX10_gathers_14 3 rfl ?_
    refine jv_lconst (v := lN 1) X dX10_gathers_15 rfl ?_
    refine jv_iload X dX10_gathers_16 0 rfl ?_
    refine jv_lshl (w := lN (2 ^ (low t_))) X dX10_gathers_18 (ln_shl1 (by omega)) ?_
    refine jv_lor (w := lN (d_ ||| (2 ^ (low t_)))) X dX10_gathers_19 (wb_or hd64_ hp64_) ?_
    refine jv_lstore (lv' := [(6, .long (lN (d_ ||| (2 ^ (low t_))))), (5, .int (nI (low t_))), (0, .ref t), (1, .long (lN t_)), (3, .long (lN d_))]) X dX10_gathers_20 (by decide) rfl ?_
    have h10_1 := hdl.ten (show 0 < tn T by omega)
    obtain ⟨he_1, hfe_1⟩ := hdl.arr h10_1
    refine jv_aload_n X dX10_gathers_22 2 rfl ?_
    refine jv_lload_n X dX10_gathers_23 3 rfl ?_
    refine jv_aload_n X dX10_gathers_24 2 rfl ?_
    refine jv_get X dX10_gathers_25 ht (T := TX10) (N := 5) (C := RX10) rfl in_X10 3 (by decide) q901 rfl rfl ?_
    refine jv_iload X dX10_gathers_28 1 rfl ?_
    refine jv_callr (jv_runV (As := [.int (nI (low t_))]) (rest := [.long (lN t_), .ref t]) X dX10_gathers_30 (c_J2_get hsl he_1 (low t_) (V (low t_)) (by omega) (by omega) (by omega) (by rw [(hV _ (by omega)).1]; rfl)) (lw_V q887 q533 q534 q94 q535) hd_J2_get hsl rfl (by omega) (by omega) (by omega) (by omega) rfl (Nat.le_of_ble_eq_true rfl)) (fun rr_ M_ h_ => ?_)
    obtain ⟨hr_, hm_⟩ := h_
    rw [hr_, hm_]
    clear hr_ hm_
    refine jv_castS X dX10_gathers_33 (hV (low t_) (by omega)).2 (r := (RX11, TX11, 4)) rfl q975 ?_
    refine jv_getN X dX10_gathers_36 (hV (low t_) (by omega)).2 (T := TX11) (N := 4) (C := RX11) rfl in_X11 3 (by decide) q992 rfl rfl ?_
    refine jv_lor (w := lN (t_ ||| (rsN S T (low t_)))) X dX10_gathers_39 (wb_or ht64_ hr64_) ?_
    refine jv_lload X dX10_gathers_40 0 rfl ?_
    refine jv_ldc2 (v := (-1)) X dX10_gathers_42 q1073 ?_
    refine jv_lxor (w := lN (d_ ||| 2 ^ low t_) ^^^ (-1)) X dX10_gathers_45 rfl ?_
    refine jv_land (w := lN (ndf (t_ ||| rsN S T (low t_)) (d_ ||| 2 ^ low t_))) X dX10_gathers_46 (nd_and (Nat.or_lt_two_pow ht64_ hr64_) (Nat.or_lt_two_pow hd64_ hp64_)) ?_
    refine jv_lload X dX10_gathers_47 0 rfl ?_
    refine jv_askl (jv_runV (As := [.long (lN (ndf (t_ ||| rsN S T (low t_)) (d_ ||| 2 ^ low t_))), .long (lN (d_ ||| (2 ^ (low t_))))]) (rest := []) X dX10_gathers_49 (IH (ndf (t_ ||| rsN S T (low t_)) (d_ ||| 2 ^ low t_)) (d_ ||| (2 ^ (low t_))) hg_) (lw_V q1062 q1064 qs23 q115 q1065) hd_X10_gathers ht rfl (by omega) (by omega) (by omega) (by omega) rfl (Nat.le_of_ble_eq_true rfl)) ?_
    exact jv_lret X dX10_gathers_52 hQ (Nat.le_of_ble_eq_true rfl) (Nat.le_of_ble_eq_true rfl) ⟨(congrArg lN (if_neg h0_ : gth S T (n_ + 1) t_ d_ = _).symm), rfl⟩
  · skip
    exact (absurd c3 h0_)
theorem c_X10_gathers {l : Launch}  {G : jv_G} {M : jv_M} {σ : jk_A} (hG : jk_G G σ) {B : jv_M} {τ : Nat → Nat} {b t : Nat} {S : Nat → Nat} {T : t_T2} (hB : jbd G B τ b S) (hS : wfS S) (hL : wfL S) (hPP : wfP S) (hT : jtr G σ B M S b t T) (hk : okT T) (hwT : wfT S T) : ∀ (n t_ d_ : Nat), gok T n t_ d_ → jv_Ct G l yX10_gathers cX10_gathers 8 (some .long) (n + 20) 0 0 (27 * n + 400) [.ref t, .long (lN t_), .long (lN d_)] M (jv_ql G (jv_pl (lN (gth S T n t_ d_)) M))
  | 0, t_, d_, h => by
    rw [h.z, gth_0]
    exact c_X10_gathers_z hG hB hS hL hPP hT hk hwT 0 d_
  | n + 1, t_, d_, h => by
    by_cases h0 : t_ = 0
    · rw [h0, gth_0]
      exact c_X10_gathers_z hG hB hS hL hPP hT hk hwT (n + 1) d_
    · exact c_X10_gathers_s hG hB hS hL hPP hT hk hwT n t_ d_ h0 h (fun t_ d_ h => c_X10_gathers hG hB hS hL hPP hT hk hwT n t_ d_ h)
