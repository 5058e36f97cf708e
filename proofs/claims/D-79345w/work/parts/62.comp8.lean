/-! the component, eighth: traces -/
set_option maxRecDepth 100000
theorem lt36 {w i : Nat} (h : w < 2 ^ i) (hi : i ≤ 36) : w < 2 ^ 64 := Nat.lt_of_lt_of_le h (Nat.pow_le_pow_right (by decide) (by omega))
theorem wx36 {w i : Nat} {c : Prop} [Decidable c] (h : w = if c then 2 ^ i else 0) (hi : i < 36) : w < 2 ^ 64 := by
  rw [h]
  split
  · exact Nat.pow_lt_pow_right (by decide) (by omega)
  · decide
theorem hd_X10_stepsFor : jv_dd yX10_stepsFor 1 := by unfold jv_dd; decide +kernel
set_option maxHeartbeats 4000000 in
theorem c_X10_stepsFor {l : Launch} {G : jv_G} {M : jv_M} {σ : jk_A} (hG : jk_G G σ) {B : jv_M} {τ : Nat → Nat} {b t : Nat} {S : Nat → Nat} {T : t_T2} (hB : jbd G B τ b S) (hS : wfS S) (hL : wfL S) (hPP : wfP S) (hT : jtr G σ B M S b t T) (hk : okT T) (hwT : wfT S T) (m_ : Nat) (hm : m_ < 2 ^ 31) : jv_Ct G l yX10_stepsFor cX10_stepsFor 5 (some .long) 3 0 0 64 [.ref t, .int (nI m_)] M (jv_ql G (jv_pl (lN (sfN T m_ (tn T))) M)) := by
  refine jv_Ct.of (lv := [(0, .ref t), (1, .int (nI m_))]) (by decide) (Nat.le_of_ble_eq_true rfl) rfl ?_
  intro x Q_ hl_ hQ X
  subst hl_
  have hT_ := hT
  have hB0 := hB
  obtain ⟨ma, le, sl, N, e, mc, gm, gl, f, V, ⟨ht, hft, hnt⟩, ⟨hma, hfma, hnma, hgm⟩, ⟨hle, hfle, hnle, hgl⟩, hml, ⟨hdl, hnsl, hne⟩, hV, hag⟩ := hT
  obtain ⟨hsl, hfsl, hnN, hN60, hdl4⟩ := id hdl
  have hn36 := hk.1
  refine jv_lconst (v := lN 0) X dX10_stepsFor_0 rfl ?_
  refine jv_lstore_n (lv' := [(2, .long (lN 0)), (0, .ref t), (1, .int (nI m_))]) X dX10_stepsFor_1 rfl (by decide) rfl ?_
  refine jv_iconst (v := nI 0) X dX10_stepsFor_2 rfl ?_
  refine jv_istore (lv' := [(4, .int (nI 0)), (2, .long (lN 0)), (0, .ref t), (1, .int (nI m_))]) X dX10_stepsFor_3 (by decide) rfl ?_
  have lp5_1 : ∀ (d_5 : Nat) (i : Nat) (w : Nat), i ≤ tn T → w = sfN T m_ i → tn T - i < d_5 → jv_J x G 5 Q_ M 0 0 5 [(0, .ref t), (1, .int (nI m_)), (2, .long (lN w)), (4, .int (nI i))] [] := by
    intro d_5
    induction d_5 with
    | zero => intro i w hi hw hm_5; exact absurd hm_5 (Nat.not_lt_zero _)
    | succ d_5 ih_5 =>
      intro i w hi hw hm_5
      refine jv_iload X dX10_stepsFor_5 3 rfl ?_
      refine jv_aload_n X dX10_stepsFor_7 0 rfl ?_
      refine jv_get X dX10_stepsFor_8 ht (T := TX10) (N := 5) (C := RX10) rfl in_X10 3 (by decide) q901 rfl rfl ?_
      refine jv_ask (jv_runV (As := []) (rest := [.int (nI i)]) X dX10_stepsFor_11 (c_J2_size hsl) (lw_V q886 q284 q285 q94 q286) hd_J2_size hsl rfl (Nat.le_of_ble_eq_true rfl) (Nat.le_of_ble_eq_true rfl) (Nat.le_of_ble_eq_true rfl) (Nat.le_of_ble_eq_true rfl) rfl (Nat.le_of_ble_eq_true rfl)) ?_
      refine jn_icmp_ge 56 X dX10_stepsFor_14 (by decide) (by omega) (by omega) (fun c14 => ?_) (fun c14 => ?_)
      · skip
        refine jv_lload_n X dX10_stepsFor_56 2 rfl ?_
        exact jv_lret X dX10_stepsFor_57 hQ (Nat.le_of_ble_eq_true rfl) (Nat.le_of_ble_eq_true rfl) ⟨(by rw [hw, show i = tn T by omega]), rfl⟩
      · skip
        have h10_2 := hdl.ten (show 0 < tn T by omega)
        obtain ⟨he_2, hfe_2⟩ := hdl.arr h10_2
        refine jv_lload_n X dX10_stepsFor_17 2 rfl ?_
        refine jv_iload_n X dX10_stepsFor_18 1 rfl ?_
        refine jv_aload_n X dX10_stepsFor_19 0 rfl ?_
        refine jv_get X dX10_stepsFor_20 ht (T := TX10) (N := 5) (C := RX10) rfl in_X10 3 (by decide) q901 rfl rfl ?_
        refine jv_iload X dX10_stepsFor_23 3 rfl ?_
        refine jv_callr (jv_runV (As := [.int (nI i)]) (rest := [.int (nI m_), .long (lN w)]) X dX10_stepsFor_25 (c_J2_get hsl he_2 i (V i) (by omega) (by omega) (by omega) (by rw [(hV _ (by omega)).1]; rfl)) (lw_V q887 q533 q534 q94 q535) hd_J2_get hsl rfl (Nat.le_of_ble_eq_true rfl) (Nat.le_of_ble_eq_true rfl) (Nat.le_of_ble_eq_true rfl) (Nat.le_of_ble_eq_true rfl) rfl (Nat.le_of_ble_eq_true rfl)) (fun rr_ M_ h_ => ?_)
        obtain ⟨hr_, hm_⟩ := h_
        rw [hr_, hm_]
        clear hr_ hm_
        refine jv_castS X dX10_stepsFor_28 (hV i (by omega)).2 (r := (RX11, TX11, 4)) rfl q975 ?_
        refine jv_getN X dX10_stepsFor_31 (hV i (by omega)).2 (T := TX11) (N := 4) (C := RX11) rfl in_X11 1 (by decide) q986 rfl rfl ?_
        refine jv_ask (jv_runSN (As := [.int (nI m_), .int (nI (tp T i))]) (rest := [.long (lN w)]) X dX10_stepsFor_34 (c_X0_has (nI m_) (nI (tp T i))) (lw_meth q678) q976 q90 q677 hd_X0_has (Nat.le_of_ble_eq_true rfl) (Nat.le_of_ble_eq_true rfl) (Nat.le_of_ble_eq_true rfl) (Nat.le_of_ble_eq_true rfl) rfl (Nat.le_of_ble_eq_true rfl)) ?_
        have j48_4 : ∀ wx : Nat, wx = (if (hasI (nI m_) (nI (tp T i))) = true then (2 ^ i) else 0) → jv_J x G 5 Q_ M 0 0 48 [(0, .ref t), (1, .int (nI m_)), (2, .long (lN w)), (4, .int (nI i))] [.long (lN wx), .long (lN w)] := by
          intro wx e_wx
          refine jv_lor (w := lN (w ||| wx)) X dX10_stepsFor_48 (wb_or (lt36 (hw ▸ sfN_lt T m_ i) (by omega)) (wx36 e_wx (by omega))) ?_
          refine jv_lstore_n (lv' := [(2, .long (lN (w ||| wx))), (0, .ref t), (1, .int (nI m_)), (4, .int (nI i))]) X dX10_stepsFor_49 rfl (by decide) rfl ?_
          skip
          refine jv_iinc (v := nI (i + 1)) (lv' := [(4, .int (nI (i + 1))), (2, .long (lN (w ||| wx))), (0, .ref t), (1, .int (nI m_))]) X dX10_stepsFor_50 3 rfl (nI_1 _) (by decide) rfl ?_
          refine jv_goto 5 X dX10_stepsFor_53 (by decide) ?_
          refine jv_lv (lv' := [(0, .ref t), (1, .int (nI m_)), (2, .long (lN (w ||| wx))), (4, .int (nI (i + 1)))]) [2, 3, 1, 0] rfl ?_
          exact ih_5 (i + 1) (w ||| wx) (by omega) (by rw [hw, e_wx, hasI_n hm (by have := (hwT i (by omega)).2.1; have := hS.1.p; omega)]; simp only [decide_eq_true_eq]; rfl) (by omega)
        refine jb_if_eq 47 X dX10_stepsFor_37 (by decide) (fun c37 => ?_) (fun c37 => ?_)
        · skip
          refine jv_lconst (v := lN 0) X dX10_stepsFor_47 rfl ?_
          exact j48_4 _ (if_neg (Bool.eq_false_iff.mp c37)).symm
        · skip
          refine jv_lconst (v := lN 1) X dX10_stepsFor_40 rfl ?_
          refine jv_iload X dX10_stepsFor_41 3 rfl ?_
          refine jv_lshl (w := lN (2 ^ i)) X dX10_stepsFor_43 (ln_shl1 (by omega)) ?_
          refine jv_goto 48 X dX10_stepsFor_44 (by decide) ?_
          exact j48_4 _ (if_pos c37).symm
  refine jv_lv (lv' := [(0, .ref t), (1, .int (nI m_)), (2, .long (lN 0)), (4, .int (nI 0))]) [2, 3, 1, 0] rfl ?_
  exact lp5_1 (tn T + 1) 0 0 (Nat.zero_le _) rfl (by omega)
theorem hd_X10_isConflict : jv_dd yX10_isConflict 0 := by unfold jv_dd; decide +kernel
set_option maxHeartbeats 4000000 in
theorem c_X10_isConflict {l : Launch} {G : jv_G} {M : jv_M} {σ : jk_A} (hG : jk_G G σ) {B : jv_M} {τ : Nat → Nat} {b t : Nat} {S : Nat → Nat} {T : t_T2} (hB : jbd G B τ b S) (hS : wfS S) (hL : wfL S) (hPP : wfP S) (hT : jtr G σ B M S b t T) (hk : okT T) (hwT : wfT S T)   : jv_Ct G l yX10_isConflict cX10_isConflict 1 (some .boolean) 0 0 0 0 [.ref t] M (jv_qi G (jv_pi (bI (!decide (tc T = 6))) M)) := by
  refine jv_Ct.of (lv := [(0, .ref t)]) (by decide) (Nat.le_of_ble_eq_true rfl) rfl ?_
  intro x Q_ hl_ hQ X
  subst hl_
  have hT_ := hT
  have hB0 := hB
  obtain ⟨ma, le, sl, N, e, mc, gm, gl, f, V, ⟨ht, hft, hnt⟩, ⟨hma, hfma, hnma, hgm⟩, ⟨hle, hfle, hnle, hgl⟩, hml, ⟨hdl, hnsl, hne⟩, hV, hag⟩ := hT
  obtain ⟨hsl, hfsl, hnN, hN60, hdl4⟩ := id hdl
  have hn36 := hk.1
  refine jv_aload_n X dX10_isConflict_0 0 rfl ?_
  refine jv_get X dX10_isConflict_1 ht (T := TX10) (N := 5) (C := RX10) rfl in_X10 4 (by decide) q903 rfl rfl ?_
  have j12_1 : ∀ w : Bool, w = (if (cfI (tc T)) < 0 then false else true) → jv_J x G 1 Q_ M 0 0 12 [(0, .ref t)] [.int (bI w)] := by
    intro w e_w
    exact jv_iret (v := bI w) X dX10_isConflict_12 (bI_nar _) hQ (Nat.le_of_ble_eq_true rfl) (Nat.le_of_ble_eq_true rfl) ⟨(by rw [e_w]; refine congrArg bI ?_; simp only [cfI_neg hk.2.2]; by_cases h : tc T = 6 <;> simp [h]), rfl⟩
  refine jv_if_lt 11 X dX10_isConflict_4 (by decide) (fun c4 => ?_) (fun c4 => ?_)
  · skip
    refine jv_iconst (v := nI 0) X dX10_isConflict_11 rfl ?_
    exact j12_1 _ (if_pos c4).symm
  · skip
    refine jv_iconst (v := nI 1) X dX10_isConflict_7 rfl ?_
    refine jv_goto 12 X dX10_isConflict_8 (by decide) ?_
    exact j12_1 _ (if_neg c4).symm
