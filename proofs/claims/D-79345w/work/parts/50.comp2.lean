/-! the component, second -/
set_option maxRecDepth 100000
theorem nml {r c : Nat} : (if r < 1000 then false else (if decide (r % 1000 % 10 = 0) = true then false else (if decide (r % 1000 / 10 = c / 10) = true then true else false))) = (!decide (r / 1000 = 0) && !decide (r % 1000 % 10 = 0) && decide (c / 10 = r % 1000 / 10)) := by
  by_cases h1 : r < 1000
  · have h2 : r / 1000 = 0 := by omega
    simp [h1, h2]
  · have h2 : ¬ r / 1000 = 0 := by omega
    by_cases h3 : r % 1000 % 10 = 0
    · simp [h1, h3]
    · by_cases h4 : r % 1000 / 10 = c / 10
      · simp [h1, h2, h3, h4]
      · have h5 : ¬ c / 10 = r % 1000 / 10 := fun z => h4 z.symm
        simp [h1, h2, h3, h4, h5]
theorem ni_n {a b : Nat} (h : nI a = nI b) (ha : a < 2 ^ 31) (hb : b < 2 ^ 31) : a = b := (nI_eq ha hb).mp h
theorem jver.c {M : jv_M} {a c : Nat} (h : jver M a c) : M a = some (.inr (4, [.int (nI (c / 100)), .int (nI (c / 10 % 10)), .int (nI (c % 10))])) := h
theorem hd_X0_satisfies : jv_dd yX0_satisfies 2 := by unfold jv_dd; decide +kernel
set_option maxHeartbeats 4000000 in
theorem c_X0_satisfies {l : Launch} {G : jv_G} {M : jv_M} {a c : Nat} (ha : jver M a c) (hc : c < 1000) (r_ : Nat) (hr : r_ < 6000) : jv_Ct G l yX0_satisfies cX0_satisfies 3 (some .boolean) 3 1 3 74 [.ref a, .int (nI r_)] M (jv_qi G (jv_pi (bI (sKd (r_ / 1000) c (r_ % 1000) (decide (v_order c < v_order (r_ % 1000))))) M)) := by
  refine jv_Ct.of (lv := [(0, .ref a), (1, .int (nI r_))]) (by decide) (Nat.le_of_ble_eq_true rfl) rfl ?_
  intro x Q_ hl_ hQ X
  subst hl_
  refine jv_new (k1 := 1) (n1 := 3) X dX0_satisfies_0 (T := TX4) (N := 3) (C := RX4) (fs := [.int 0, .int 0, .int 0]) (ci := 4) rfl in_X4 tyX4 tyX4_ok q546 q547 q109 rfl rfl rfl (Nat.le_of_ble_eq_true rfl) (Nat.le_of_ble_eq_true rfl) (fun q_1 hnq_1 hbq_1 => ?_)
  refine jv_dup X dX0_satisfies_3 rfl ?_
  refine jv_iload_n X dX0_satisfies_4 1 rfl ?_
  refine jv_callv (jv_runI (As := [.int (nI r_)]) (rest := [.ref q_1]) X dX0_satisfies_5 (c_X4_init_2 jv_up_s hbq_1 r_ (by omega)) (lw_meth q658) q109 q656 q657 rfl hd_X4_init_2 (Nat.le_of_ble_eq_true rfl) (Nat.le_of_ble_eq_true rfl) (by omega) (by omega) rfl (Nat.le_of_ble_eq_true rfl)) (fun M_ h_ => ?_)
  rw [h_]
  clear h_
  rw [jv_up_up]
  refine jv_astore_n (lv' := [(2, .ref q_1), (0, .ref a), (1, .int (nI r_))]) X dX0_satisfies_8 rfl (by decide) rfl ?_
  refine jv_iload_n X dX0_satisfies_9 2 rfl ?_
  refine jv_sipush (v := nI 1000) X dX0_satisfies_10 rfl ?_
  refine jv_idiv (w := nI (r_ / 1000)) X dX0_satisfies_13 (ni_nz (by decide) (by decide)) (pk_div (by omega) (by decide) (by decide)) ?_
  by_cases c14_0 : (nI (r_ / 1000)) = nI 0
  · skip
    refine jv_tableIn 48 X dX0_satisfies_14 (by rw [c14_0]; decide) (by rw [c14_0]; decide) (by rw [c14_0]; rfl) (by decide) ?_
    refine jv_iconst (v := nI 1) X dX0_satisfies_48 rfl ?_
    refine jv_goto 132 X dX0_satisfies_49 (by decide) ?_
    have k_ : r_ / 1000 = 0 := ni_n c14_0 (by omega) (by decide)
    refine jv_fewer (jag.few (jag.new jag.rf hnq_1)) ?_
    exact jv_iret (v := bI true) X dX0_satisfies_132 (bI_nar _) hQ (Nat.le_of_ble_eq_true rfl) (Nat.le_of_ble_eq_true rfl) ⟨(congrArg bI (by unfold sKd; rw [k_]; generalize decide (v_order c < v_order (r_ % 1000)) = bf; cases bf <;> by_cases h1 : c / 100 = r_ % 1000 / 100 <;> by_cases h2 : c / 10 = r_ % 1000 / 10 <;> simp [h1, h2])), rfl⟩
  · skip
    by_cases c14_1 : (nI (r_ / 1000)) = nI 1
    · skip
      refine jv_tableIn 52 X dX0_satisfies_14 (by rw [c14_1]; decide) (by rw [c14_1]; decide) (by rw [c14_1]; rfl) (by decide) ?_
      refine jv_aload_n X dX0_satisfies_52 1 rfl ?_
      refine jv_aload_n X dX0_satisfies_53 0 rfl ?_
      refine jv_ask (jv_runV (As := [.ref q_1]) (rest := []) X dX0_satisfies_54 (c_X4_isSame (c := c) (d := r_ % 1000) ((jv_up_n (new_ne hnq_1 ha.c)).trans ha.c) jv_up_s (by omega) (by omega)) (lw_V q660 q575 q576 q109 q577) hd_X4_isSame ((jv_up_n (new_ne hnq_1 ha.c)).trans ha.c) rfl (Nat.le_of_ble_eq_true rfl) (Nat.le_of_ble_eq_true rfl) (by omega) (by omega) rfl (Nat.le_of_ble_eq_true rfl)) ?_
      refine jv_goto 132 X dX0_satisfies_57 (by decide) ?_
      have k_ : r_ / 1000 = 1 := ni_n c14_1 (by omega) (by decide)
      refine jv_fewer (jag.few (jag.new jag.rf hnq_1)) ?_
      exact jv_iret (v := bI (decide (c = (r_ % 1000)))) X dX0_satisfies_132 (bI_nar _) hQ (Nat.le_of_ble_eq_true rfl) (Nat.le_of_ble_eq_true rfl) ⟨(congrArg bI (by unfold sKd; rw [k_]; generalize decide (v_order c < v_order (r_ % 1000)) = bf; cases bf <;> by_cases h1 : c / 100 = r_ % 1000 / 100 <;> by_cases h2 : c / 10 = r_ % 1000 / 10 <;> simp [h1, h2])), rfl⟩
    · skip
      by_cases c14_2 : (nI (r_ / 1000)) = nI 2
      · skip
        refine jv_tableIn 60 X dX0_satisfies_14 (by rw [c14_2]; decide) (by rw [c14_2]; decide) (by rw [c14_2]; rfl) (by decide) ?_
        refine jv_aload_n X dX0_satisfies_60 1 rfl ?_
        refine jv_aload_n X dX0_satisfies_61 0 rfl ?_
        refine jv_ask (jv_runV (As := [.ref q_1]) (rest := []) X dX0_satisfies_62 (c_X4_isBefore (c := c) (d := r_ % 1000) ((jv_up_n (new_ne hnq_1 ha.c)).trans ha.c) jv_up_s (by omega) (by omega)) (lw_V q661 q614 q615 q109 q616) hd_X4_isBefore ((jv_up_n (new_ne hnq_1 ha.c)).trans ha.c) rfl (Nat.le_of_ble_eq_true rfl) (Nat.le_of_ble_eq_true rfl) (by omega) (by omega) rfl (Nat.le_of_ble_eq_true rfl)) ?_
        refine jv_goto 132 X dX0_satisfies_65 (by decide) ?_
        have k_ : r_ / 1000 = 2 := ni_n c14_2 (by omega) (by decide)
        refine jv_fewer (jag.few (jag.new jag.rf hnq_1)) ?_
        exact jv_iret (v := bI (decide (v_order c < v_order (r_ % 1000)))) X dX0_satisfies_132 (bI_nar _) hQ (Nat.le_of_ble_eq_true rfl) (Nat.le_of_ble_eq_true rfl) ⟨(congrArg bI (by unfold sKd; rw [k_]; generalize decide (v_order c < v_order (r_ % 1000)) = bf; cases bf <;> by_cases h1 : c / 100 = r_ % 1000 / 100 <;> by_cases h2 : c / 10 = r_ % 1000 / 10 <;> simp [h1, h2])), rfl⟩
      · skip
        by_cases c14_3 : (nI (r_ / 1000)) = nI 3
        · skip
          refine jv_tableIn 68 X dX0_satisfies_14 (by rw [c14_3]; decide) (by rw [c14_3]; decide) (by rw [c14_3]; rfl) (by decide) ?_
          refine jv_aload_n X dX0_satisfies_68 1 rfl ?_
          refine jv_aload_n X dX0_satisfies_69 0 rfl ?_
          refine jv_ask (jv_runV (As := [.ref q_1]) (rest := []) X dX0_satisfies_70 (c_X4_isBefore (c := c) (d := r_ % 1000) ((jv_up_n (new_ne hnq_1 ha.c)).trans ha.c) jv_up_s (by omega) (by omega)) (lw_V q661 q614 q615 q109 q616) hd_X4_isBefore ((jv_up_n (new_ne hnq_1 ha.c)).trans ha.c) rfl (Nat.le_of_ble_eq_true rfl) (Nat.le_of_ble_eq_true rfl) (by omega) (by omega) rfl (Nat.le_of_ble_eq_true rfl)) ?_
          have j132_2 : ∀ w_3 : Bool, w_3 = (if (decide (v_order c < v_order (r_ % 1000))) = true then false else true) → jv_J x G 3 Q_ (jv_up M q_1 (.inr (4, [.int (nI ((r_ % 1000) / 100)), .int (nI ((r_ % 1000) / 10 % 10)), .int (nI ((r_ % 1000) % 10))]))) 1 3 132 [(2, .ref q_1), (0, .ref a), (1, .int (nI r_))] [.int (bI w_3)] := by
            intro w_3 e_w_3
            have k_ : r_ / 1000 = 3 := ni_n c14_3 (by omega) (by decide)
            refine jv_fewer (jag.few (jag.new jag.rf hnq_1)) ?_
            exact jv_iret (v := bI w_3) X dX0_satisfies_132 (bI_nar _) hQ (Nat.le_of_ble_eq_true rfl) (Nat.le_of_ble_eq_true rfl) ⟨(congrArg bI (by unfold sKd; rw [k_]; rw [e_w_3]; generalize decide (v_order c < v_order (r_ % 1000)) = bf; cases bf <;> by_cases h1 : c / 100 = r_ % 1000 / 100 <;> by_cases h2 : c / 10 = r_ % 1000 / 10 <;> simp [h1, h2])), rfl⟩
          refine jb_if_ne 80 X dX0_satisfies_73 (by decide) (fun c73 => ?_) (fun c73 => ?_)
          · skip
            refine jv_iconst (v := nI 0) X dX0_satisfies_80 rfl ?_
            refine jv_goto 132 X dX0_satisfies_81 (by decide) ?_
            exact j132_2 _ (if_pos c73).symm
          · skip
            refine jv_iconst (v := nI 1) X dX0_satisfies_76 rfl ?_
            refine jv_goto 132 X dX0_satisfies_77 (by decide) ?_
            exact j132_2 _ (if_neg (Bool.eq_false_iff.mp c73)).symm
        · skip
          by_cases c14_4 : (nI (r_ / 1000)) = nI 4
          · skip
            refine jv_tableIn 84 X dX0_satisfies_14 (by rw [c14_4]; decide) (by rw [c14_4]; decide) (by rw [c14_4]; rfl) (by decide) ?_
            refine jv_aload_n X dX0_satisfies_84 1 rfl ?_
            refine jv_getN X dX0_satisfies_85 ((jv_up_n (new_ne hnq_1 ha.c)).trans ha.c) (T := TX4) (N := 3) (C := RX4) rfl in_X4 0 (by decide) q553 rfl rfl ?_
            refine jv_aload_n X dX0_satisfies_88 0 rfl ?_
            refine jv_getN X dX0_satisfies_89 jv_up_s (T := TX4) (N := 3) (C := RX4) rfl in_X4 0 (by decide) q553 rfl rfl ?_
            have j132_4 : ∀ w_5 : Bool, w_5 = (if (c / 100) = ((r_ % 1000) / 100) then (if (decide (v_order c < v_order (r_ % 1000))) = true then false else true) else false) → jv_J x G 3 Q_ (jv_up M q_1 (.inr (4, [.int (nI ((r_ % 1000) / 100)), .int (nI ((r_ % 1000) / 10 % 10)), .int (nI ((r_ % 1000) % 10))]))) 1 3 132 [(2, .ref q_1), (0, .ref a), (1, .int (nI r_))] [.int (bI w_5)] := by
              intro w_5 e_w_5
              have k_ : r_ / 1000 = 4 := ni_n c14_4 (by omega) (by decide)
              refine jv_fewer (jag.few (jag.new jag.rf hnq_1)) ?_
              exact jv_iret (v := bI w_5) X dX0_satisfies_132 (bI_nar _) hQ (Nat.le_of_ble_eq_true rfl) (Nat.le_of_ble_eq_true rfl) ⟨(congrArg bI (by unfold sKd; rw [k_]; rw [e_w_5]; generalize decide (v_order c < v_order (r_ % 1000)) = bf; cases bf <;> by_cases h1 : c / 100 = r_ % 1000 / 100 <;> by_cases h2 : c / 10 = r_ % 1000 / 10 <;> simp [h1, h2])), rfl⟩
            refine jn_icmp_ne 107 X dX0_satisfies_92 (by decide) (by omega) (by omega) (fun c92 => ?_) (fun c92 => ?_)
            · skip
              refine jv_iconst (v := nI 0) X dX0_satisfies_107 rfl ?_
              refine jv_goto 132 X dX0_satisfies_108 (by decide) ?_
              exact j132_4 _ (if_neg c92).symm
            · skip
              refine jv_aload_n X dX0_satisfies_95 1 rfl ?_
              refine jv_aload_n X dX0_satisfies_96 0 rfl ?_
              refine jv_ask (jv_runV (As := [.ref q_1]) (rest := []) X dX0_satisfies_97 (c_X4_isBefore (c := c) (d := r_ % 1000) ((jv_up_n (new_ne hnq_1 ha.c)).trans ha.c) jv_up_s (by omega) (by omega)) (lw_V q661 q614 q615 q109 q616) hd_X4_isBefore ((jv_up_n (new_ne hnq_1 ha.c)).trans ha.c) rfl (Nat.le_of_ble_eq_true rfl) (Nat.le_of_ble_eq_true rfl) (by omega) (by omega) rfl (Nat.le_of_ble_eq_true rfl)) ?_
              refine jb_if_ne 107 X dX0_satisfies_100 (by decide) (fun c100 => ?_) (fun c100 => ?_)
              · skip
                refine jv_iconst (v := nI 0) X dX0_satisfies_107 rfl ?_
                refine jv_goto 132 X dX0_satisfies_108 (by decide) ?_
                exact j132_4 _ ((if_pos c92).trans (if_pos c100)).symm
              · skip
                refine jv_iconst (v := nI 1) X dX0_satisfies_103 rfl ?_
                refine jv_goto 132 X dX0_satisfies_104 (by decide) ?_
                exact j132_4 _ ((if_pos c92).trans (if_neg (Bool.eq_false_iff.mp c100))).symm
          · skip
            refine jv_tableOut 111 X dX0_satisfies_14 (jt_out5 c14_0 c14_1 c14_2 c14_3 c14_4) (by decide) ?_
            refine jv_aload_n X dX0_satisfies_111 1 rfl ?_
            refine jv_aload_n X dX0_satisfies_112 0 rfl ?_
            refine jv_ask (jv_runV (As := [.ref q_1]) (rest := []) X dX0_satisfies_113 (c_X4_isOfLine (c := c) (d := r_ % 1000) ((jv_up_n (new_ne hnq_1 ha.c)).trans ha.c) jv_up_s (by omega) (by omega)) (lw_V q662 q663 q664 q109 q665) hd_X4_isOfLine ((jv_up_n (new_ne hnq_1 ha.c)).trans ha.c) rfl (Nat.le_of_ble_eq_true rfl) (Nat.le_of_ble_eq_true rfl) (by omega) (by omega) rfl (Nat.le_of_ble_eq_true rfl)) ?_
            have j132_6 : ∀ w_7 : Bool, w_7 = (if (decide (c / 10 = (r_ % 1000) / 10)) = true then (if (decide (v_order c < v_order (r_ % 1000))) = true then false else true) else false) → jv_J x G 3 Q_ (jv_up M q_1 (.inr (4, [.int (nI ((r_ % 1000) / 100)), .int (nI ((r_ % 1000) / 10 % 10)), .int (nI ((r_ % 1000) % 10))]))) 1 3 132 [(2, .ref q_1), (0, .ref a), (1, .int (nI r_))] [.int (bI w_7)] := by
              intro w_7 e_w_7
              have k_ : r_ / 1000 = 5 := by
                have n0 : r_ / 1000 ≠ 0 := fun z => c14_0 (by rw [z])
                have n1 : r_ / 1000 ≠ 1 := fun z => c14_1 (by rw [z])
                have n2 : r_ / 1000 ≠ 2 := fun z => c14_2 (by rw [z])
                have n3 : r_ / 1000 ≠ 3 := fun z => c14_3 (by rw [z])
                have n4 : r_ / 1000 ≠ 4 := fun z => c14_4 (by rw [z])
                omega
              refine jv_fewer (jag.few (jag.new jag.rf hnq_1)) ?_
              exact jv_iret (v := bI w_7) X dX0_satisfies_132 (bI_nar _) hQ (Nat.le_of_ble_eq_true rfl) (Nat.le_of_ble_eq_true rfl) ⟨(congrArg bI (by unfold sKd; rw [k_]; rw [e_w_7]; generalize decide (v_order c < v_order (r_ % 1000)) = bf; cases bf <;> by_cases h1 : c / 100 = r_ % 1000 / 100 <;> by_cases h2 : c / 10 = r_ % 1000 / 10 <;> simp [h1, h2])), rfl⟩
            refine jb_if_eq 131 X dX0_satisfies_116 (by decide) (fun c116 => ?_) (fun c116 => ?_)
            · skip
              refine jv_iconst (v := nI 0) X dX0_satisfies_131 rfl ?_
              exact j132_6 _ (if_neg (Bool.eq_false_iff.mp c116)).symm
            · skip
              refine jv_aload_n X dX0_satisfies_119 1 rfl ?_
              refine jv_aload_n X dX0_satisfies_120 0 rfl ?_
              refine jv_ask (jv_runV (As := [.ref q_1]) (rest := []) X dX0_satisfies_121 (c_X4_isBefore (c := c) (d := r_ % 1000) ((jv_up_n (new_ne hnq_1 ha.c)).trans ha.c) jv_up_s (by omega) (by omega)) (lw_V q661 q614 q615 q109 q616) hd_X4_isBefore ((jv_up_n (new_ne hnq_1 ha.c)).trans ha.c) rfl (Nat.le_of_ble_eq_true rfl) (Nat.le_of_ble_eq_true rfl) (by omega) (by omega) rfl (Nat.le_of_ble_eq_true rfl)) ?_
              refine jb_if_ne 131 X dX0_satisfies_124 (by decide) (fun c124 => ?_) (fun c124 => ?_)
              · skip
                refine jv_iconst (v := nI 0) X dX0_satisfies_131 rfl ?_
                exact j132_6 _ ((if_pos c116).trans (if_pos c124)).symm
              · skip
                refine jv_iconst (v := nI 1) X dX0_satisfies_127 rfl ?_
                refine jv_goto 132 X dX0_satisfies_128 (by decide) ?_
                exact j132_6 _ ((if_pos c116).trans (if_neg (Bool.eq_false_iff.mp c124))).symm
theorem hd_X0_namesLine : jv_dd yX0_namesLine 2 := by unfold jv_dd; decide +kernel
set_option maxHeartbeats 4000000 in
theorem c_X0_namesLine {l : Launch} {G : jv_G} {M : jv_M} {a c : Nat} (ha : jver M a c) (hc : c < 1000) (r_ : Nat) (hr : r_ < 6000) : jv_Ct G l yX0_namesLine cX0_namesLine 3 (some .boolean) 3 1 3 74 [.ref a, .int (nI r_)] M (jv_qi G (jv_pi (bI (!decide (r_ / 1000 = 0) && !decide (r_ % 1000 % 10 = 0) && decide (c / 10 = r_ % 1000 / 10))) M)) := by
  refine jv_Ct.of (lv := [(0, .ref a), (1, .int (nI r_))]) (by decide) (Nat.le_of_ble_eq_true rfl) rfl ?_
  intro x Q_ hl_ hQ X
  subst hl_
  refine jv_new (k1 := 1) (n1 := 3) X dX0_namesLine_0 (T := TX4) (N := 3) (C := RX4) (fs := [.int 0, .int 0, .int 0]) (ci := 4) rfl in_X4 tyX4 tyX4_ok q546 q547 q109 rfl rfl rfl (Nat.le_of_ble_eq_true rfl) (Nat.le_of_ble_eq_true rfl) (fun q_1 hnq_1 hbq_1 => ?_)
  refine jv_dup X dX0_namesLine_3 rfl ?_
  refine jv_iload_n X dX0_namesLine_4 1 rfl ?_
  refine jv_callv (jv_runI (As := [.int (nI r_)]) (rest := [.ref q_1]) X dX0_namesLine_5 (c_X4_init_2 jv_up_s hbq_1 r_ (by omega)) (lw_meth q658) q109 q656 q657 rfl hd_X4_init_2 (Nat.le_of_ble_eq_true rfl) (Nat.le_of_ble_eq_true rfl) (by omega) (by omega) rfl (Nat.le_of_ble_eq_true rfl)) (fun M_ h_ => ?_)
  rw [h_]
  clear h_
  rw [jv_up_up]
  refine jv_astore_n (lv' := [(2, .ref q_1), (0, .ref a), (1, .int (nI r_))]) X dX0_namesLine_8 rfl (by decide) rfl ?_
  refine jv_iload_n X dX0_namesLine_9 2 rfl ?_
  refine jv_sipush (v := nI 1000) X dX0_namesLine_10 rfl ?_
  have j36_2 : ∀ w : Bool, w = (if r_ < 1000 then false else (if (decide ((r_ % 1000) % 10 = 0)) = true then false else (if (decide ((r_ % 1000) / 10 = c / 10)) = true then true else false))) → jv_J x G 3 Q_ (jv_up M q_1 (.inr (4, [.int (nI ((r_ % 1000) / 100)), .int (nI ((r_ % 1000) / 10 % 10)), .int (nI ((r_ % 1000) % 10))]))) 1 3 36 [(2, .ref q_1), (0, .ref a), (1, .int (nI r_))] [.int (bI w)] := by
    intro w e_w
    refine jv_fewer (jag.few (jag.new jag.rf hnq_1)) ?_
    exact jv_iret (v := bI w) X dX0_namesLine_36 (bI_nar _) hQ (Nat.le_of_ble_eq_true rfl) (Nat.le_of_ble_eq_true rfl) ⟨(congrArg bI (e_w.trans nml)), rfl⟩
  refine jn_icmp_lt 35 X dX0_namesLine_13 (by decide) (by omega) (by decide) (fun c13 => ?_) (fun c13 => ?_)
  · skip
    refine jv_iconst (v := nI 0) X dX0_namesLine_35 rfl ?_
    exact j36_2 _ (if_pos c13).symm
  · skip
    refine jv_aload_n X dX0_namesLine_16 0 rfl ?_
    refine jv_ask (jv_runV (As := []) (rest := []) X dX0_namesLine_17 (c_X4_isRelease (c := r_ % 1000) jv_up_s) (lw_V q670 q583 q584 q109 q585) hd_X4_isRelease jv_up_s rfl (Nat.le_of_ble_eq_true rfl) (Nat.le_of_ble_eq_true rfl) (by omega) (by omega) rfl (Nat.le_of_ble_eq_true rfl)) ?_
    refine jb_if_ne 35 X dX0_namesLine_20 (by decide) (fun c20 => ?_) (fun c20 => ?_)
    · skip
      refine jv_iconst (v := nI 0) X dX0_namesLine_35 rfl ?_
      exact j36_2 _ ((if_neg (Nat.not_lt.mpr c13)).trans (if_pos c20)).symm
    · skip
      refine jv_aload_n X dX0_namesLine_23 0 rfl ?_
      refine jv_aload_n X dX0_namesLine_24 1 rfl ?_
      refine jv_ask (jv_runV (As := [.ref a]) (rest := []) X dX0_namesLine_25 (c_X4_isOfLine (c := r_ % 1000) (d := c) jv_up_s ((jv_up_n (new_ne hnq_1 ha.c)).trans ha.c) (by omega) (by omega)) (lw_V q662 q663 q664 q109 q665) hd_X4_isOfLine jv_up_s rfl (Nat.le_of_ble_eq_true rfl) (Nat.le_of_ble_eq_true rfl) (by omega) (by omega) rfl (Nat.le_of_ble_eq_true rfl)) ?_
      refine jb_if_eq 35 X dX0_namesLine_28 (by decide) (fun c28 => ?_) (fun c28 => ?_)
      · skip
        refine jv_iconst (v := nI 0) X dX0_namesLine_35 rfl ?_
        exact j36_2 _ (((if_neg (Nat.not_lt.mpr c13)).trans (if_neg (Bool.eq_false_iff.mp c20))).trans (if_neg (Bool.eq_false_iff.mp c28))).symm
      · skip
        refine jv_iconst (v := nI 1) X dX0_namesLine_31 rfl ?_
        refine jv_goto 36 X dX0_namesLine_32 (by decide) ?_
        exact j36_2 _ (((if_neg (Nat.not_lt.mpr c13)).trans (if_neg (Bool.eq_false_iff.mp c20))).trans (if_pos c28)).symm
