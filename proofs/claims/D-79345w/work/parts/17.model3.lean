/-! reference, third -/
set_option maxRecDepth 100000
theorem hd_X2_leaves : jv_dd yX2_leaves 3 := by unfold jv_dd; decide +kernel
set_option maxHeartbeats 4000000 in
theorem c_X2_leaves {l : Launch} {G : jv_G} {o : md_O} {F : Nat → Int32} {A : Nat → Nat → Int32} {S : Nat → Nat} (hO : md_K G o) (hS : ∀ j, j < 237 → A 0 j = nI (S j)) {T : t_T2} (hT : isT S F A T) (hk : okT T) (who : Nat) (p : Nat) (z : Int32) (hp : p < S 0) (hW : wfB S) : jv_Ct G l yX2_leaves cX2_leaves 5 (none) 0 0 0 0 [.ref o.2.1, .int (nI who), .int (nI p), .int z] (md_M G o F A) (jv_qv G (mT G o S F A (lvT who p z T))) := by
  refine jv_Ct.of (lv := [(0, .ref o.2.1), (1, .int (nI who)), (2, .int (nI p)), (3, .int z)]) (by decide) (Nat.le_of_ble_eq_true rfl) rfl ?_
  intro x Q_ hl_ hQ X
  subst hl_
  have hp6 := Nat.lt_of_lt_of_le hp hW.p
  refine jv_aload_n X dX2_leaves_0 0 rfl ?_
  refine jm_getA X dX2_leaves_1 12 (by decide) q2022 rfl ?_
  refine jv_iload_n X dX2_leaves_4 2 rfl ?_
  refine jm_ld (v := nI (tl T p)) X hO dX2_leaves_5 12 (by decide) (show p < 6 from (by omega)) (hT.2.2.1 _ (by omega)) ?_
  refine jv_iload_n X dX2_leaves_6 3 rfl ?_
  refine jv_iand (w := nI (tl T p &&& ux z)) X dX2_leaves_7 (ux_and64 (hk.2.1 p hp6) z) ?_
  refine jv_istore (lv' := [(4, .int (nI (tl T p &&& ux z))), (0, .ref o.2.1), (1, .int (nI who)), (2, .int (nI p)), (3, .int z)]) X dX2_leaves_8 (by decide) rfl ?_
  refine jv_iload X dX2_leaves_10 0 rfl ?_
  refine jn_if_eq 23 X dX2_leaves_12 (by decide) (Nat.lt_of_le_of_lt Nat.and_le_left (Nat.lt_trans (hk.2.1 p hp6) (by decide))) (fun c12 => ?_) (fun c12 => ?_)
  · skip
    exact jv_vret X dX2_leaves_23 hQ (Nat.le_of_ble_eq_true rfl) (Nat.le_of_ble_eq_true rfl) ⟨_, _, rfl, (by unfold lvT; rw [if_pos c12]; exact hT), ktT.rf⟩
  · skip
    refine jv_aload_n X dX2_leaves_15 1 rfl ?_
    refine jm_getF (v := cI (tc T)) X dX2_leaves_16 17 (by decide) q2027 rfl hT.2.1 ?_
    refine jv_iconst (v := (-1)) X dX2_leaves_19 rfl ?_
    refine jv_icmp_eq 24 X dX2_leaves_20 (by decide) (fun c20 => ?_) (fun c20 => ?_)
    · skip
      have hn36 := hk.lt hp6 c12
      have hc6 := (cI_m1 hk.2.2).mp c20
      refine jv_aload_n X dX2_leaves_24 1 rfl ?_
      refine jm_getA X dX2_leaves_25 13 (by decide) q2023 rfl ?_
      refine jv_aload_n X dX2_leaves_28 1 rfl ?_
      refine jm_getF (v := nI (tn T)) X dX2_leaves_29 16 (by decide) q2026 rfl hT.1 ?_
      refine jv_iload_n X dX2_leaves_32 2 rfl ?_
      refine jm_st (v := nI who) X hO dX2_leaves_33 13 (by decide) (show (tn T) < 40 from (by omega)) ?_
      refine jv_aload_n X dX2_leaves_34 1 rfl ?_
      refine jm_getA X dX2_leaves_35 14 (by decide) q2024 rfl ?_
      refine jv_aload_n X dX2_leaves_38 1 rfl ?_
      refine jm_getF (v := nI (tn T)) X dX2_leaves_39 16 (by decide) q2026 rfl hT.1 ?_
      refine jv_iload_n X dX2_leaves_42 3 rfl ?_
      refine jm_st (v := nI p) X hO dX2_leaves_43 14 (by decide) (show (tn T) < 40 from (by omega)) ?_
      refine jv_aload_n X dX2_leaves_44 1 rfl ?_
      refine jm_getA X dX2_leaves_45 15 (by decide) q2025 rfl ?_
      refine jv_aload_n X dX2_leaves_48 1 rfl ?_
      refine jm_getF (v := nI (tn T)) X dX2_leaves_49 16 (by decide) q2026 rfl hT.1 ?_
      refine jv_iload X dX2_leaves_52 0 rfl ?_
      refine jm_st (v := nI (tl T p &&& ux z)) X hO dX2_leaves_54 15 (by decide) (show (tn T) < 40 from (by omega)) ?_
      refine jv_aload_n X dX2_leaves_55 1 rfl ?_
      refine jv_dup X dX2_leaves_56 rfl ?_
      refine jm_getF (v := nI (tn T)) X dX2_leaves_57 16 (by decide) q2026 rfl hT.1 ?_
      refine jv_iconst (v := nI 1) X dX2_leaves_60 rfl ?_
      refine jv_iadd (w := nI ((tn T) + 1)) X dX2_leaves_61 (nI_add _ _) ?_
      refine jm_putF (ty := .int) (v := nI ((tn T) + 1)) X hO dX2_leaves_62 16 (by decide) q2026 rfl rfl rfl rfl rfl ?_
      refine jv_aload_n X dX2_leaves_65 1 rfl ?_
      refine jm_getA X dX2_leaves_66 12 (by decide) q2022 rfl ?_
      refine jv_iload_n X dX2_leaves_69 3 rfl ?_
      refine jv_dup2 X dX2_leaves_70 rfl rfl ?_
      refine jm_ld (v := nI (tl T p)) X hO dX2_leaves_71 12 (by decide) (show p < 6 from (by omega)) ((mdA_n (by decide)).trans ((mdA_n (by decide)).trans ((mdA_n (by decide)).trans (hT.2.2.1 _ (by omega))))) ?_
      refine jv_iload X dX2_leaves_72 0 rfl ?_
      refine jv_iconst (v := (-1)) X dX2_leaves_74 rfl ?_
      refine jv_ixor (w := (nI (tl T p &&& ux z)) ^^^ (-1)) X dX2_leaves_75 rfl ?_
      refine jv_iand (w := nI (tl T p &&& ux (unv (tl T p &&& ux z)))) X dX2_leaves_76 (ux_and64 (hk.2.1 p hp6) _) ?_
      refine jm_st (v := nI (tl T p &&& ux (unv (tl T p &&& ux z)))) X hO dX2_leaves_77 12 (by decide) (show p < 6 from (by omega)) ?_
      refine jv_aload_n X dX2_leaves_78 1 rfl ?_
      refine jm_getA X dX2_leaves_79 12 (by decide) q2022 rfl ?_
      refine jv_iload_n X dX2_leaves_82 3 rfl ?_
      refine jm_ld (v := nI (tl T p &&& ux (unv (tl T p &&& ux z)))) X hO dX2_leaves_83 12 (by decide) (show p < 6 from (by omega)) mdA_s ?_
      refine jn_if_ne 92 X dX2_leaves_84 (by decide) (Nat.lt_of_le_of_lt Nat.and_le_left (Nat.lt_trans (hk.2.1 p hp6) (by decide))) (fun c84 => ?_) (fun c84 => ?_)
      · skip
        exact jv_vret X dX2_leaves_92 hQ (Nat.le_of_ble_eq_true rfl) (Nat.le_of_ble_eq_true rfl) ⟨_, _, rfl, (isT_lv hT c12 hc6 _ (by simp [upd]) (by rw [if_neg c84]; simp only [upd]; exact hT.2.1.trans (by rw [hc6]))), (ktT_lv (fun k a b => by simp [upd, a, b]))⟩
      · skip
        refine jv_aload_n X dX2_leaves_87 1 rfl ?_
        refine jv_iload_n X dX2_leaves_88 3 rfl ?_
        refine jm_putF (ty := .int) (v := nI p) X hO dX2_leaves_89 17 (by decide) q2027 rfl rfl rfl rfl rfl ?_
        exact jv_vret X dX2_leaves_92 hQ (Nat.le_of_ble_eq_true rfl) (Nat.le_of_ble_eq_true rfl) ⟨_, _, rfl, (isT_lv hT c12 hc6 _ (by simp [upd]) (by rw [if_pos c84, cI_lt hp6]; simp [upd])), (ktT_lv (fun k a b => by simp [upd, a, b]))⟩
    · skip
      exact jv_vret X dX2_leaves_23 hQ (Nat.le_of_ble_eq_true rfl) (Nat.le_of_ble_eq_true rfl) ⟨_, _, rfl, (by unfold lvT; rw [if_neg c12, if_neg (fun z => c20 ((cI_m1 hk.2.2).mpr z))]; exact hT), ktT.rf⟩
theorem hd_X2_appliesLearned : jv_dd yX2_appliesLearned 1 := by unfold jv_dd; decide +kernel
set_option maxHeartbeats 4000000 in
theorem c_X2_appliesLearned {l : Launch} {G : jv_G} {o : md_O} {F : Nat → Int32} {A : Nat → Nat → Int32} {S : Nat → Nat} (hO : md_K G o) (hS : ∀ j, j < 237 → A 0 j = nI (S j)) {T : t_T2} (hT : isT S F A T) (hk : okT T) (r : Nat) (hr : r < S 1) (hWs : wfS S) : jv_Ct G l yX2_appliesLearned cX2_appliesLearned 5 (none) 2 0 0 46 [.ref o.2.1, .int (nI r)] (md_M G o F A) (jv_qv G (mT G o S F A (aplT S r T))) := by
  refine jv_Ct.of (lv := [(0, .ref o.2.1), (1, .int (nI r))]) (by decide) (Nat.le_of_ble_eq_true rfl) rfl ?_
  intro x Q_ hl_ hQ X
  subst hl_
  have hW := hWs.1
  have hS0_ := hW.p
  refine jv_iconst (v := nI 0) X dX2_appliesLearned_0 rfl ?_
  refine jv_istore_n (lv' := [(2, .int (nI 0)), (0, .ref o.2.1), (1, .int (nI r))]) X dX2_appliesLearned_1 rfl (by decide) rfl ?_
  have lp2_1 : ∀ (d_2 : Nat) (p : Nat), p ≤ S 0 → aplF S r T (S 0 - p) p = aplT S r T → S 0 - p < d_2 → jv_J x G 5 Q_ (md_M G o F A) 0 0 2 [(0, .ref o.2.1), (1, .int (nI r)), (2, .int (nI p))] [] := by
    intro d_2
    induction d_2 with
    | zero => intro p hp hf hm_2; exact absurd hm_2 (Nat.not_lt_zero _)
    | succ d_2 ih_2 =>
      intro p hp hf hm_2
      refine jv_iload_n X dX2_appliesLearned_2 2 rfl ?_
      refine jv_aload_n X dX2_appliesLearned_3 0 rfl ?_
      refine jm_getA X dX2_appliesLearned_4 0 (by decide) q2010 rfl ?_
      refine jv_iconst (v := nI 0) X dX2_appliesLearned_7 rfl ?_
      refine jm_ld (v := nI (S 0)) X hO dX2_appliesLearned_8 0 (by decide) (show 0 < 237 from (by omega)) (hS _ (by omega)) ?_
      refine jn_icmp_ge 119 X dX2_appliesLearned_9 (by decide) (by omega) (by omega) (fun c9 => ?_) (fun c9 => ?_)
      · skip
        exact jv_vret X dX2_appliesLearned_119 hQ (Nat.le_of_ble_eq_true rfl) (Nat.le_of_ble_eq_true rfl) ⟨_, _, rfl, (by rw [← hf, show S 0 - p = 0 by omega]; exact hT), ktT.rf⟩
      · skip
        have hls := lsd_lt S r p
        have hS0 := hW.p
        have hr30 := Nat.lt_of_lt_of_le hr hW.r
        refine jv_aload_n X dX2_appliesLearned_12 0 rfl ?_
        refine jv_iload_n X dX2_appliesLearned_13 1 rfl ?_
        refine jv_iload_n X dX2_appliesLearned_14 2 rfl ?_
        refine jv_ask (jv_runV (As := [.int (nI r), .int (nI p)]) (rest := []) X dX2_appliesLearned_15 (c_X2_learnedState hO hS r p (by omega) (by omega) hW) (lw_V q2209 q2211 qs55 q100 q2212) hd_X2_learnedState md_M_o rfl (Nat.le_of_ble_eq_true rfl) (Nat.le_of_ble_eq_true rfl) (Nat.le_of_ble_eq_true rfl) (Nat.le_of_ble_eq_true rfl) rfl (Nat.le_of_ble_eq_true rfl)) ?_
        refine jv_iconst (v := (-1)) X dX2_appliesLearned_18 rfl ?_
        have j27_2 : ∀ wa : Bool, wa = (if (lsd S r p) = 0 then false else true) → jv_J x G 5 Q_ (md_M G o F A) 0 0 27 [(0, .ref o.2.1), (1, .int (nI r)), (2, .int (nI p))] [.int (bI wa)] := by
          intro wa e_wa
          refine jv_istore_n (lv' := [(3, .int (bI wa)), (0, .ref o.2.1), (1, .int (nI r)), (2, .int (nI p))]) X dX2_appliesLearned_27 rfl (by decide) rfl ?_
          refine jv_iconst (v := nI 0) X dX2_appliesLearned_28 rfl ?_
          refine jv_istore (lv' := [(4, .int (nI 0)), (3, .int (bI wa)), (0, .ref o.2.1), (1, .int (nI r)), (2, .int (nI p))]) X dX2_appliesLearned_29 (by decide) rfl ?_
          have lp31_3 : ∀ (d_31 : Nat) (q : Nat) (w : Bool), q ≤ S 0 → w = isN S r T p q → S 0 - q < d_31 → jv_J x G 5 Q_ (md_M G o F A) 0 0 31 [(0, .ref o.2.1), (1, .int (nI r)), (2, .int (nI p)), (3, .int (bI w)), (4, .int (nI q))] [] := by
            intro d_31
            induction d_31 with
            | zero => intro q w hq hw hm_31; exact absurd hm_31 (Nat.not_lt_zero _)
            | succ d_31 ih_31 =>
              intro q w hq hw hm_31
              refine jv_iload X dX2_appliesLearned_31 4 rfl ?_
              refine jv_aload_n X dX2_appliesLearned_33 0 rfl ?_
              refine jm_getA X dX2_appliesLearned_34 0 (by decide) q2010 rfl ?_
              refine jv_iconst (v := nI 0) X dX2_appliesLearned_37 rfl ?_
              refine jm_ld (v := nI (S 0)) X hO dX2_appliesLearned_38 0 (by decide) (show 0 < 237 from (by omega)) (hS _ (by omega)) ?_
              refine jn_icmp_ge 94 X dX2_appliesLearned_39 (by decide) (by omega) (by omega) (fun c39 => ?_) (fun c39 => ?_)
              · skip
                refine jv_iload_n X dX2_appliesLearned_94 3 rfl ?_
                refine jb_if_eq 113 X dX2_appliesLearned_95 (by decide) (fun c95 => ?_) (fun c95 => ?_)
                · skip
                  refine jv_iinc (v := nI (p + 1)) (lv' := [(2, .int (nI (p + 1))), (0, .ref o.2.1), (1, .int (nI r)), (3, .int (bI w)), (4, .int (nI q))]) X dX2_appliesLearned_113 2 rfl (nI_1 _) (by decide) rfl ?_
                  refine jv_goto 2 X dX2_appliesLearned_116 (by decide) ?_
                  refine jv_lv (lv' := [(0, .ref o.2.1), (1, .int (nI r)), (2, .int (nI (p + 1)))]) [1, 2, 0] rfl ?_
                  exact ih_2 (p + 1) (by omega) (by rw [← hf, aplF_s (show 0 < S 0 - p by omega), if_neg (by rw [show S 0 = q by omega, ← hw, c95]; decide), show S 0 - p - 1 = S 0 - (p + 1) by omega]) (by omega)
                · skip
                  have e_wfin : isN S r T p (S 0) = true := by rw [show S 0 = q by omega, ← hw]; exact c95
                  have hdp := isN_d e_wfin
                  refine jv_aload_n X dX2_appliesLearned_98 0 rfl ?_
                  refine jv_iload_n X dX2_appliesLearned_99 1 rfl ?_
                  refine jv_iload_n X dX2_appliesLearned_100 2 rfl ?_
                  refine jv_iconst (v := nI 1) X dX2_appliesLearned_101 rfl ?_
                  refine jv_aload_n X dX2_appliesLearned_102 0 rfl ?_
                  refine jv_iload_n X dX2_appliesLearned_103 1 rfl ?_
                  refine jv_iload_n X dX2_appliesLearned_104 2 rfl ?_
                  refine jv_ask (jv_runV (As := [.int (nI r), .int (nI p)]) (rest := [.int (nI 1), .int (nI p), .int (nI r), .ref o.2.1]) X dX2_appliesLearned_105 (c_X2_learnedState hO hS r p (by omega) (by omega) hW) (lw_V q2209 q2211 qs55 q100 q2212) hd_X2_learnedState md_M_o rfl (Nat.le_of_ble_eq_true rfl) (Nat.le_of_ble_eq_true rfl) (Nat.le_of_ble_eq_true rfl) (Nat.le_of_ble_eq_true rfl) rfl (Nat.le_of_ble_eq_true rfl)) ?_
                  refine jv_ishl (w := nI (2 ^ (lsd S r p - 1))) X dX2_appliesLearned_108 (ni_shlm (by omega)) ?_
                  refine jv_callv (jv_runV (As := [.int (nI r), .int (nI p), .int (nI (2 ^ (lsd S r p - 1)))]) (rest := []) X dX2_appliesLearned_109 (c_X2_leaves hO hS hT hk r p (nI (2 ^ (lsd S r p - 1))) (show p < S 0 by omega) hW) (lw_V q2241 q2243 qs61 q100 q2244) hd_X2_leaves md_M_o rfl (Nat.le_of_ble_eq_true rfl) (Nat.le_of_ble_eq_true rfl) (Nat.le_of_ble_eq_true rfl) (Nat.le_of_ble_eq_true rfl) rfl (Nat.le_of_ble_eq_true rfl)) (fun M_ h_ => ?_)
                  obtain ⟨F4, A4, rfl, hT4, hK4⟩ := h_
                  have hS4 := hK4.S hS
                  have hk4 := (hk.lv (who := r) (p := p) (Nat.lt_of_lt_of_le (show p < S 0 by omega) hW.p) (nI (2 ^ (lsd S r p - 1))))
                  skip
                  exact jv_vret X dX2_appliesLearned_112 hQ (Nat.le_of_ble_eq_true rfl) (Nat.le_of_ble_eq_true rfl) ⟨_, _, rfl, (by rw [← hf, aplF_s (by omega), if_pos e_wfin]; exact hT4), hK4⟩
              · skip
                refine jv_iload_n X dX2_appliesLearned_42 3 rfl ?_
                have j87_5 : ∀ wb : Bool, wb = (if w = true then (if q = p then true else (if (lsd S r q) = 0 then true else (if (tl T q) = (2 ^ (lsd S r q - 1)) then true else false))) else false) → jv_J x G 5 Q_ (md_M G o F A) 0 0 87 [(0, .ref o.2.1), (1, .int (nI r)), (2, .int (nI p)), (3, .int (bI w)), (4, .int (nI q))] [.int (bI wb)] := by
                  intro wb e_wb
                  refine jv_istore_n (lv' := [(3, .int (bI wb)), (0, .ref o.2.1), (1, .int (nI r)), (2, .int (nI p)), (4, .int (nI q))]) X dX2_appliesLearned_87 rfl (by decide) rfl ?_
                  refine jv_iinc (v := nI (q + 1)) (lv' := [(4, .int (nI (q + 1))), (3, .int (bI wb)), (0, .ref o.2.1), (1, .int (nI r)), (2, .int (nI p))]) X dX2_appliesLearned_88 4 rfl (nI_1 _) (by decide) rfl ?_
                  refine jv_goto 31 X dX2_appliesLearned_91 (by decide) ?_
                  refine jv_lv (lv' := [(0, .ref o.2.1), (1, .int (nI r)), (2, .int (nI p)), (3, .int (bI wb)), (4, .int (nI (q + 1)))]) [2, 3, 4, 1, 0] rfl ?_
                  exact ih_31 (q + 1) wb (by omega) (by rw [isN, ← hw]; exact e_wb) (by omega)
                refine jb_if_eq 86 X dX2_appliesLearned_43 (by decide) (fun c43 => ?_) (fun c43 => ?_)
                · skip
                  refine jv_iconst (v := nI 0) X dX2_appliesLearned_86 rfl ?_
                  exact j87_5 _ (if_neg (Bool.eq_false_iff.mp c43)).symm
                · skip
                  have hlq := lsd_lt S r q
                  refine jv_iload X dX2_appliesLearned_46 4 rfl ?_
                  refine jv_iload_n X dX2_appliesLearned_48 2 rfl ?_
                  refine jn_icmp_eq 82 X dX2_appliesLearned_49 (by decide) (by omega) (by omega) (fun c49 => ?_) (fun c49 => ?_)
                  · skip
                    refine jv_iconst (v := nI 1) X dX2_appliesLearned_82 rfl ?_
                    refine jv_goto 87 X dX2_appliesLearned_83 (by decide) ?_
                    exact j87_5 _ ((if_pos c43).trans (if_pos c49)).symm
                  · skip
                    refine jv_aload_n X dX2_appliesLearned_52 0 rfl ?_
                    refine jv_iload_n X dX2_appliesLearned_53 1 rfl ?_
                    refine jv_iload X dX2_appliesLearned_54 4 rfl ?_
                    refine jv_ask (jv_runV (As := [.int (nI r), .int (nI q)]) (rest := []) X dX2_appliesLearned_56 (c_X2_learnedState hO hS r q (by omega) (by omega) hW) (lw_V q2209 q2211 qs55 q100 q2212) hd_X2_learnedState md_M_o rfl (Nat.le_of_ble_eq_true rfl) (Nat.le_of_ble_eq_true rfl) (Nat.le_of_ble_eq_true rfl) (Nat.le_of_ble_eq_true rfl) rfl (Nat.le_of_ble_eq_true rfl)) ?_
                    refine jv_iconst (v := (-1)) X dX2_appliesLearned_59 rfl ?_
                    refine jq_icmp_eq 82 X dX2_appliesLearned_60 (by decide) (by omega) (fun c60 => ?_) (fun c60 => ?_)
                    · skip
                      refine jv_iconst (v := nI 1) X dX2_appliesLearned_82 rfl ?_
                      refine jv_goto 87 X dX2_appliesLearned_83 (by decide) ?_
                      exact j87_5 _ (((if_pos c43).trans (if_neg c49)).trans (if_pos c60)).symm
                    · skip
                      refine jv_aload_n X dX2_appliesLearned_63 0 rfl ?_
                      refine jm_getA X dX2_appliesLearned_64 12 (by decide) q2022 rfl ?_
                      refine jv_iload X dX2_appliesLearned_67 4 rfl ?_
                      refine jm_ld (v := nI (tl T q)) X hO dX2_appliesLearned_69 12 (by decide) (show q < 6 from (by omega)) (hT.2.2.1 _ (by omega)) ?_
                      refine jv_iconst (v := nI 1) X dX2_appliesLearned_70 rfl ?_
                      refine jv_aload_n X dX2_appliesLearned_71 0 rfl ?_
                      refine jv_iload_n X dX2_appliesLearned_72 1 rfl ?_
                      refine jv_iload X dX2_appliesLearned_73 4 rfl ?_
                      refine jv_ask (jv_runV (As := [.int (nI r), .int (nI q)]) (rest := [.int (nI 1), .int (nI (tl T q))]) X dX2_appliesLearned_75 (c_X2_learnedState hO hS r q (by omega) (by omega) hW) (lw_V q2209 q2211 qs55 q100 q2212) hd_X2_learnedState md_M_o rfl (Nat.le_of_ble_eq_true rfl) (Nat.le_of_ble_eq_true rfl) (Nat.le_of_ble_eq_true rfl) (Nat.le_of_ble_eq_true rfl) rfl (Nat.le_of_ble_eq_true rfl)) ?_
                      refine jv_ishl (w := nI (2 ^ (lsd S r q - 1))) X dX2_appliesLearned_78 (ni_shlm (by omega)) ?_
                      refine jn_icmp_ne 86 X dX2_appliesLearned_79 (by decide) (Nat.lt_trans (hk.2.1 q (by omega)) (by decide)) (pow_lt31 (by omega)) (fun c79 => ?_) (fun c79 => ?_)
                      · skip
                        refine jv_iconst (v := nI 0) X dX2_appliesLearned_86 rfl ?_
                        exact j87_5 _ ((((if_pos c43).trans (if_neg c49)).trans (if_neg c60)).trans (if_neg c79)).symm
                      · skip
                        refine jv_iconst (v := nI 1) X dX2_appliesLearned_82 rfl ?_
                        refine jv_goto 87 X dX2_appliesLearned_83 (by decide) ?_
                        exact j87_5 _ ((((if_pos c43).trans (if_neg c49)).trans (if_neg c60)).trans (if_pos c79)).symm
          refine jv_lv (lv' := [(0, .ref o.2.1), (1, .int (nI r)), (2, .int (nI p)), (3, .int (bI wa)), (4, .int (nI 0))]) [2, 3, 4, 1, 0] rfl ?_
          exact lp31_3 (S 0 + 1) 0 wa (Nat.zero_le _) e_wa (by omega)
        refine jq_icmp_eq 26 X dX2_appliesLearned_19 (by decide) (by omega) (fun c19 => ?_) (fun c19 => ?_)
        · skip
          refine jv_iconst (v := nI 0) X dX2_appliesLearned_26 rfl ?_
          exact j27_2 _ (if_pos c19).symm
        · skip
          refine jv_iconst (v := nI 1) X dX2_appliesLearned_22 rfl ?_
          refine jv_goto 27 X dX2_appliesLearned_23 (by decide) ?_
          exact j27_2 _ (if_neg c19).symm
  refine jv_lv (lv' := [(0, .ref o.2.1), (1, .int (nI r)), (2, .int (nI 0))]) [1, 2, 0] rfl ?_
  exact lp2_1 (S 0 + 1) 0 (Nat.zero_le _) rfl (by omega)
theorem hd_X2_applies : jv_dd yX2_applies 1 := by unfold jv_dd; decide +kernel
set_option maxHeartbeats 4000000 in
theorem c_X2_applies {l : Launch} {G : jv_G} {o : md_O} {F : Nat → Int32} {A : Nat → Nat → Int32} {S : Nat → Nat} (hO : md_K G o) (hS : ∀ j, j < 237 → A 0 j = nI (S j)) {T : t_T2} (hT : isT S F A T) (hk : okT T) (r : Nat) (hr : r < S 1) (hWs : wfS S) : jv_Ct G l yX2_applies cX2_applies 7 (none) 3 0 0 73 [.ref o.2.1, .int (nI r)] (md_M G o F A) (jv_qv G (mT G o S F A (appT S r T))) := by
  refine jv_Ct.of (lv := [(0, .ref o.2.1), (1, .int (nI r))]) (by decide) (Nat.le_of_ble_eq_true rfl) rfl ?_
  intro x Q_ hl_ hQ X
  subst hl_
  have hW := hWs.1
  have hr30 := Nat.lt_of_lt_of_le hr hW.r
  have h0 := hW.rk hr30
  have h1 := (hWs.2.1 r hr).1
  have h3 := (hWs.2.1 r hr).2
  have h2 := hW.r2 hr30
  have h4 := hW.r4 hr30
  have h16 := hW.r1 hr30
  have h36 := hW.r3 hr30
  refine jv_aload_n X dX2_applies_0 0 rfl ?_
  refine jv_iload_n X dX2_applies_1 1 rfl ?_
  refine jv_iconst (v := nI 1) X dX2_applies_2 rfl ?_
  refine jv_ask (jv_runV (As := [.int (nI r), .int (nI 1)]) (rest := []) X dX2_applies_3 (c_X2_ofRule hO hS r 1 (by omega) (by omega)) (lw_V q2142 q2144 qs46 q100 q2145) hd_X2_ofRule md_M_o rfl (Nat.le_of_ble_eq_true rfl) (Nat.le_of_ble_eq_true rfl) (Nat.le_of_ble_eq_true rfl) (Nat.le_of_ble_eq_true rfl) rfl (Nat.le_of_ble_eq_true rfl)) ?_
  refine jv_istore_n (lv' := [(2, .int (nI (v_ofRule S r 1))), (0, .ref o.2.1), (1, .int (nI r))]) X dX2_applies_6 rfl (by decide) rfl ?_
  refine jv_aload_n X dX2_applies_7 1 rfl ?_
  refine jv_iload_n X dX2_applies_8 2 rfl ?_
  refine jv_iconst (v := nI 3) X dX2_applies_9 rfl ?_
  refine jv_ask (jv_runV (As := [.int (nI r), .int (nI 3)]) (rest := []) X dX2_applies_10 (c_X2_ofRule hO hS r 3 (by omega) (by omega)) (lw_V q2142 q2144 qs46 q100 q2145) hd_X2_ofRule md_M_o rfl (Nat.le_of_ble_eq_true rfl) (Nat.le_of_ble_eq_true rfl) (Nat.le_of_ble_eq_true rfl) (Nat.le_of_ble_eq_true rfl) rfl (Nat.le_of_ble_eq_true rfl)) ?_
  refine jv_istore_n (lv' := [(3, .int (nI (v_ofRule S r 3))), (2, .int (nI (v_ofRule S r 1))), (0, .ref o.2.1), (1, .int (nI r))]) X dX2_applies_13 rfl (by decide) rfl ?_
  refine jv_aload_n X dX2_applies_14 2 rfl ?_
  refine jv_iload_n X dX2_applies_15 3 rfl ?_
  refine jv_iconst (v := nI 0) X dX2_applies_16 rfl ?_
  refine jv_ask (jv_runV (As := [.int (nI r), .int (nI 0)]) (rest := []) X dX2_applies_17 (c_X2_ofRule hO hS r 0 (by omega) (by omega)) (lw_V q2142 q2144 qs46 q100 q2145) hd_X2_ofRule md_M_o rfl (Nat.le_of_ble_eq_true rfl) (Nat.le_of_ble_eq_true rfl) (Nat.le_of_ble_eq_true rfl) (Nat.le_of_ble_eq_true rfl) rfl (Nat.le_of_ble_eq_true rfl)) ?_
  refine jv_istore (lv' := [(4, .int (nI (v_ofRule S r 0))), (3, .int (nI (v_ofRule S r 3))), (2, .int (nI (v_ofRule S r 1))), (0, .ref o.2.1), (1, .int (nI r))]) X dX2_applies_20 (by decide) rfl ?_
  refine jv_iload X dX2_applies_22 0 rfl ?_
  refine jn_if_ne 46 X dX2_applies_24 (by decide) (by omega) (fun c24 => ?_) (fun c24 => ?_)
  · skip
    refine jv_iload X dX2_applies_46 0 rfl ?_
    refine jv_iconst (v := nI 1) X dX2_applies_48 rfl ?_
    refine jn_icmp_eq 58 X dX2_applies_49 (by decide) (by omega) (by decide) (fun c49 => ?_) (fun c49 => ?_)
    · skip
      refine jv_iconst (v := nI 1) X dX2_applies_58 rfl ?_
      refine jv_aload_n X dX2_applies_59 3 rfl ?_
      refine jv_iload_n X dX2_applies_60 4 rfl ?_
      refine jv_iconst (v := nI 2) X dX2_applies_61 rfl ?_
      refine jv_ask (jv_runV (As := [.int (nI r), .int (nI 2)]) (rest := [.int (nI 1)]) X dX2_applies_62 (c_X2_ofRule hO hS r 2 (by omega) (by omega)) (lw_V q2142 q2144 qs46 q100 q2145) hd_X2_ofRule md_M_o rfl (Nat.le_of_ble_eq_true rfl) (Nat.le_of_ble_eq_true rfl) (Nat.le_of_ble_eq_true rfl) (Nat.le_of_ble_eq_true rfl) rfl (Nat.le_of_ble_eq_true rfl)) ?_
      refine jv_ishl (w := nI (2 ^ (v_ofRule S r 2))) X dX2_applies_65 (ni_shl1 (by omega)) ?_
      refine jv_istore (lv' := [(5, .int (nI (2 ^ (v_ofRule S r 2)))), (4, .int (nI (v_ofRule S r 0))), (3, .int (nI (v_ofRule S r 3))), (2, .int (nI (v_ofRule S r 1))), (0, .ref o.2.1), (1, .int (nI r))]) X dX2_applies_66 (by decide) rfl ?_
      refine jv_iload X dX2_applies_68 1 rfl ?_
      refine jv_iconst (v := nI 1) X dX2_applies_70 rfl ?_
      have j101_1 : ∀ w_2 : Int32, w_2 = (if (v_ofRule S r 0) = 1 then ((nI (cov S (v_ofRule S r 3) (v_ofRule S r 4))) ^^^ (-1)) else (nI (cov S (v_ofRule S r 3) (v_ofRule S r 4)))) → jv_J x G 7 Q_ (md_M G o F A) 0 0 101 [(5, .int (nI (2 ^ (v_ofRule S r 2)))), (4, .int (nI (v_ofRule S r 0))), (3, .int (nI (v_ofRule S r 3))), (2, .int (nI (v_ofRule S r 1))), (0, .ref o.2.1), (1, .int (nI r))] [.int w_2] := by
        intro w_2 e_w_2
        replace e_w_2 : w_2 = barX S r := e_w_2.trans rfl
        subst e_w_2
        refine jv_istore (lv' := [(6, .int (barX S r)), (5, .int (nI (2 ^ (v_ofRule S r 2)))), (4, .int (nI (v_ofRule S r 0))), (3, .int (nI (v_ofRule S r 3))), (2, .int (nI (v_ofRule S r 1))), (0, .ref o.2.1), (1, .int (nI r))]) X dX2_applies_101 (by decide) rfl ?_
        refine jv_aload_n X dX2_applies_103 5 rfl ?_
        refine jm_getA X dX2_applies_104 12 (by decide) q2022 rfl ?_
        refine jv_iload_n X dX2_applies_107 4 rfl ?_
        refine jm_ld (v := nI (tl T (v_ofRule S r 1))) X hO dX2_applies_108 12 (by decide) (show (v_ofRule S r 1) < 6 from (by omega)) (hT.2.2.1 _ h1) ?_
        refine jv_iload X dX2_applies_109 1 rfl ?_
        refine jn_icmp_ne 122 X dX2_applies_111 (by decide) (Nat.lt_trans (hk.2.1 _ h16) (by decide)) (pow_lt31 (by omega)) (fun c111 => ?_) (fun c111 => ?_)
        · skip
          have hkc := hk
          refine jv_aload_n X dX2_applies_122 5 rfl ?_
          refine jm_getA X dX2_applies_123 12 (by decide) q2022 rfl ?_
          refine jv_iload_n X dX2_applies_126 3 rfl ?_
          refine jm_ld (v := nI (tl T (v_ofRule S r 3))) X hO dX2_applies_127 12 (by decide) (show (v_ofRule S r 3) < 6 from (by omega)) (hT.2.2.1 _ h3) ?_
          refine jv_iload X dX2_applies_128 0 rfl ?_
          refine jv_iconst (v := (-1)) X dX2_applies_130 rfl ?_
          refine jv_ixor (w := (barX S r) ^^^ (-1)) X dX2_applies_131 rfl ?_
          refine jv_iand (w := nI (tl T (v_ofRule S r 3) &&& ux (barX S r ^^^ (-1)))) X dX2_applies_132 (ux_and64 (hk.2.1 _ h36) _) ?_
          refine jn_if_ne 144 X dX2_applies_133 (by decide) (Nat.lt_of_le_of_lt Nat.and_le_left (Nat.lt_trans (hkc.2.1 _ h36) (by decide))) (fun c133 => ?_) (fun c133 => ?_)
          · skip
            refine jv_iload X dX2_applies_144 2 rfl ?_
            refine jv_iconst (v := nI 3) X dX2_applies_146 rfl ?_
            refine jn_icmp_ne 155 X dX2_applies_147 (by decide) (by omega) (by decide) (fun c147 => ?_) (fun c147 => ?_)
            · skip
              exact jv_vret X dX2_applies_155 hQ (Nat.le_of_ble_eq_true rfl) (Nat.le_of_ble_eq_true rfl) ⟨_, _, rfl, (by rw [appT, if_neg c24, if_neg (by omega), tieT]; simp only [tie1x, if_neg c111]; rw [if_neg c133]; exact hT), ktT.rf⟩
            · skip
              exact (by omega)
          · skip
            refine jv_aload_n X dX2_applies_136 5 rfl ?_
            refine jv_iload_n X dX2_applies_137 6 rfl ?_
            refine jv_iload_n X dX2_applies_138 4 rfl ?_
            refine jv_iload X dX2_applies_139 1 rfl ?_
            refine jv_callv (jv_runV (As := [.int (nI r), .int (nI (v_ofRule S r 1)), .int (nI (2 ^ (v_ofRule S r 2)))]) (rest := []) X dX2_applies_141 (c_X2_leaves hO hS hT hk r (v_ofRule S r 1) (nI (2 ^ (v_ofRule S r 2))) h1 hW) (lw_V q2241 q2243 qs61 q100 q2244) hd_X2_leaves md_M_o rfl (Nat.le_of_ble_eq_true rfl) (Nat.le_of_ble_eq_true rfl) (Nat.le_of_ble_eq_true rfl) (Nat.le_of_ble_eq_true rfl) rfl (Nat.le_of_ble_eq_true rfl)) (fun M_ h_ => ?_)
            obtain ⟨F3, A3, rfl, hT3, hK3⟩ := h_
            have hS3 := hK3.S hS
            have hk3 := (hk.lv (who := r) (p := (v_ofRule S r 1)) (Nat.lt_of_lt_of_le h1 hW.p) (nI (2 ^ (v_ofRule S r 2))))
            skip
            refine jv_iload X dX2_applies_144 2 rfl ?_
            refine jv_iconst (v := nI 3) X dX2_applies_146 rfl ?_
            refine jn_icmp_ne 155 X dX2_applies_147 (by decide) (by omega) (by decide) (fun c147 => ?_) (fun c147 => ?_)
            · skip
              exact jv_vret X dX2_applies_155 hQ (Nat.le_of_ble_eq_true rfl) (Nat.le_of_ble_eq_true rfl) ⟨_, _, rfl, (by rw [appT, if_neg c24, if_neg (by omega), tieT]; simp only [tie1x, if_neg c111]; rw [if_pos c133]; exact hT3), hK3⟩
            · skip
              exact (by omega)
        · skip
          refine jv_aload_n X dX2_applies_114 5 rfl ?_
          refine jv_iload_n X dX2_applies_115 6 rfl ?_
          refine jv_iload_n X dX2_applies_116 3 rfl ?_
          refine jv_iload X dX2_applies_117 0 rfl ?_
          refine jv_callv (jv_runV (As := [.int (nI r), .int (nI (v_ofRule S r 3)), .int (barX S r)]) (rest := []) X dX2_applies_119 (c_X2_leaves hO hS hT hk r (v_ofRule S r 3) (barX S r) h3 hW) (lw_V q2241 q2243 qs61 q100 q2244) hd_X2_leaves md_M_o rfl (Nat.le_of_ble_eq_true rfl) (Nat.le_of_ble_eq_true rfl) (Nat.le_of_ble_eq_true rfl) (Nat.le_of_ble_eq_true rfl) rfl (Nat.le_of_ble_eq_true rfl)) (fun M_ h_ => ?_)
          obtain ⟨F4, A4, rfl, hT4, hK4⟩ := h_
          have hS4 := hK4.S hS
          have hk4 := (hk.lv (who := r) (p := (v_ofRule S r 3)) (Nat.lt_of_lt_of_le h3 hW.p) (barX S r))
          skip
          have hkc := hk4
          refine jv_aload_n X dX2_applies_122 5 rfl ?_
          refine jm_getA X dX2_applies_123 12 (by decide) q2022 rfl ?_
          refine jv_iload_n X dX2_applies_126 3 rfl ?_
          refine jm_ld (v := nI (tl (lvT r (v_ofRule S r 3) (barX S r) T) (v_ofRule S r 3))) X hO dX2_applies_127 12 (by decide) (show (v_ofRule S r 3) < 6 from (by omega)) (hT4.2.2.1 _ h3) ?_
          refine jv_iload X dX2_applies_128 0 rfl ?_
          refine jv_iconst (v := (-1)) X dX2_applies_130 rfl ?_
          refine jv_ixor (w := (barX S r) ^^^ (-1)) X dX2_applies_131 rfl ?_
          refine jv_iand (w := nI (tl (lvT r (v_ofRule S r 3) (barX S r) T) (v_ofRule S r 3) &&& ux (barX S r ^^^ (-1)))) X dX2_applies_132 (ux_and64 (hk4.2.1 _ h36) _) ?_
          refine jn_if_ne 144 X dX2_applies_133 (by decide) (Nat.lt_of_le_of_lt Nat.and_le_left (Nat.lt_trans (hkc.2.1 _ h36) (by decide))) (fun c133 => ?_) (fun c133 => ?_)
          · skip
            refine jv_iload X dX2_applies_144 2 rfl ?_
            refine jv_iconst (v := nI 3) X dX2_applies_146 rfl ?_
            refine jn_icmp_ne 155 X dX2_applies_147 (by decide) (by omega) (by decide) (fun c147 => ?_) (fun c147 => ?_)
            · skip
              exact jv_vret X dX2_applies_155 hQ (Nat.le_of_ble_eq_true rfl) (Nat.le_of_ble_eq_true rfl) ⟨_, _, rfl, (by rw [appT, if_neg c24, if_neg (by omega), tieT]; simp only [tie1x, if_pos c111]; rw [if_neg c133]; exact hT4), hK4⟩
            · skip
              exact (by omega)
          · skip
            refine jv_aload_n X dX2_applies_136 5 rfl ?_
            refine jv_iload_n X dX2_applies_137 6 rfl ?_
            refine jv_iload_n X dX2_applies_138 4 rfl ?_
            refine jv_iload X dX2_applies_139 1 rfl ?_
            refine jv_callv (jv_runV (As := [.int (nI r), .int (nI (v_ofRule S r 1)), .int (nI (2 ^ (v_ofRule S r 2)))]) (rest := []) X dX2_applies_141 (c_X2_leaves hO hS4 hT4 hk4 r (v_ofRule S r 1) (nI (2 ^ (v_ofRule S r 2))) h1 hW) (lw_V q2241 q2243 qs61 q100 q2244) hd_X2_leaves md_M_o rfl (Nat.le_of_ble_eq_true rfl) (Nat.le_of_ble_eq_true rfl) (Nat.le_of_ble_eq_true rfl) (Nat.le_of_ble_eq_true rfl) rfl (Nat.le_of_ble_eq_true rfl)) (fun M_ h_ => ?_)
            obtain ⟨F5, A5, rfl, hT5, hK5⟩ := h_
            have hS5 := hK5.S hS4
            have hk5 := (hk4.lv (who := r) (p := (v_ofRule S r 1)) (Nat.lt_of_lt_of_le h1 hW.p) (nI (2 ^ (v_ofRule S r 2))))
            skip
            refine jv_iload X dX2_applies_144 2 rfl ?_
            refine jv_iconst (v := nI 3) X dX2_applies_146 rfl ?_
            refine jn_icmp_ne 155 X dX2_applies_147 (by decide) (by omega) (by decide) (fun c147 => ?_) (fun c147 => ?_)
            · skip
              exact jv_vret X dX2_applies_155 hQ (Nat.le_of_ble_eq_true rfl) (Nat.le_of_ble_eq_true rfl) ⟨_, _, rfl, (by rw [appT, if_neg c24, if_neg (by omega), tieT]; simp only [tie1x, if_pos c111]; rw [if_pos c133]; exact hT5), (hK4.tr hK5)⟩
            · skip
              exact (by omega)
      refine jn_icmp_ne 90 X dX2_applies_71 (by decide) (by omega) (by decide) (fun c71 => ?_) (fun c71 => ?_)
      · skip
        refine jv_aload_n X dX2_applies_90 4 rfl ?_
        refine jv_iload_n X dX2_applies_91 2 rfl ?_
        refine jv_aload_n X dX2_applies_92 4 rfl ?_
        refine jv_iload_n X dX2_applies_93 5 rfl ?_
        refine jv_iconst (v := nI 4) X dX2_applies_94 rfl ?_
        refine jv_ask (jv_runV (As := [.int (nI r), .int (nI 4)]) (rest := [.int (nI (v_ofRule S r 3)), .ref o.2.1]) X dX2_applies_95 (c_X2_ofRule hO hS r 4 (by omega) (by omega)) (lw_V q2142 q2144 qs46 q100 q2145) hd_X2_ofRule md_M_o rfl (Nat.le_of_ble_eq_true rfl) (Nat.le_of_ble_eq_true rfl) (Nat.le_of_ble_eq_true rfl) (Nat.le_of_ble_eq_true rfl) rfl (Nat.le_of_ble_eq_true rfl)) ?_
        refine jv_ask (jv_runV (As := [.int (nI (v_ofRule S r 3)), .int (nI (v_ofRule S r 4))]) (rest := []) X dX2_applies_98 (c_X2_coversOf hO hS (v_ofRule S r 3) (v_ofRule S r 4) (by omega) (by omega) hW) (lw_V q2153 q2155 qs47 q100 q2156) hd_X2_coversOf md_M_o rfl (Nat.le_of_ble_eq_true rfl) (Nat.le_of_ble_eq_true rfl) (Nat.le_of_ble_eq_true rfl) (Nat.le_of_ble_eq_true rfl) rfl (Nat.le_of_ble_eq_true rfl)) ?_
        exact j101_1 _ (if_neg c71).symm
      · skip
        refine jv_aload_n X dX2_applies_74 4 rfl ?_
        refine jv_iload_n X dX2_applies_75 2 rfl ?_
        refine jv_aload_n X dX2_applies_76 4 rfl ?_
        refine jv_iload_n X dX2_applies_77 5 rfl ?_
        refine jv_iconst (v := nI 4) X dX2_applies_78 rfl ?_
        refine jv_ask (jv_runV (As := [.int (nI r), .int (nI 4)]) (rest := [.int (nI (v_ofRule S r 3)), .ref o.2.1]) X dX2_applies_79 (c_X2_ofRule hO hS r 4 (by omega) (by omega)) (lw_V q2142 q2144 qs46 q100 q2145) hd_X2_ofRule md_M_o rfl (Nat.le_of_ble_eq_true rfl) (Nat.le_of_ble_eq_true rfl) (Nat.le_of_ble_eq_true rfl) (Nat.le_of_ble_eq_true rfl) rfl (Nat.le_of_ble_eq_true rfl)) ?_
        refine jv_ask (jv_runV (As := [.int (nI (v_ofRule S r 3)), .int (nI (v_ofRule S r 4))]) (rest := []) X dX2_applies_82 (c_X2_coversOf hO hS (v_ofRule S r 3) (v_ofRule S r 4) (by omega) (by omega) hW) (lw_V q2153 q2155 qs47 q100 q2156) hd_X2_coversOf md_M_o rfl (Nat.le_of_ble_eq_true rfl) (Nat.le_of_ble_eq_true rfl) (Nat.le_of_ble_eq_true rfl) (Nat.le_of_ble_eq_true rfl) rfl (Nat.le_of_ble_eq_true rfl)) ?_
        refine jv_iconst (v := (-1)) X dX2_applies_85 rfl ?_
        refine jv_ixor (w := (nI (cov S (v_ofRule S r 3) (v_ofRule S r 4))) ^^^ (-1)) X dX2_applies_86 rfl ?_
        refine jv_goto 101 X dX2_applies_87 (by decide) ?_
        exact j101_1 _ (if_pos c71).symm
    · skip
      refine jv_iload X dX2_applies_52 0 rfl ?_
      refine jv_iconst (v := nI 2) X dX2_applies_54 rfl ?_
      refine jn_icmp_ne 144 X dX2_applies_55 (by decide) (by omega) (by decide) (fun c55 => ?_) (fun c55 => ?_)
      · skip
        refine jv_iload X dX2_applies_144 0 rfl ?_
        refine jv_iconst (v := nI 3) X dX2_applies_146 rfl ?_
        refine jn_icmp_ne 155 X dX2_applies_147 (by decide) (by omega) (by decide) (fun c147 => ?_) (fun c147 => ?_)
        · skip
          exact (by omega)
        · skip
          refine jv_aload_n X dX2_applies_150 3 rfl ?_
          refine jv_iload_n X dX2_applies_151 4 rfl ?_
          refine jv_callv (jv_runV (As := [.int (nI r)]) (rest := []) X dX2_applies_152 (c_X2_appliesLearned hO hS hT hk r (by omega) hWs) (lw_V q2245 q2247 qs62 q100 q2248) hd_X2_appliesLearned md_M_o rfl (Nat.le_of_ble_eq_true rfl) (Nat.le_of_ble_eq_true rfl) (Nat.le_of_ble_eq_true rfl) (Nat.le_of_ble_eq_true rfl) rfl (Nat.le_of_ble_eq_true rfl)) (fun M_ h_ => ?_)
          obtain ⟨F6, A6, rfl, hT6, hK6⟩ := h_
          have hS6 := hK6.S hS
          have hk6 := (hk.apl (S := S) (r := r) (S 0) 0 (by have := hW.p; omega))
          skip
          exact jv_vret X dX2_applies_155 hQ (Nat.le_of_ble_eq_true rfl) (Nat.le_of_ble_eq_true rfl) ⟨_, _, rfl, (by rw [appT, if_neg c24, if_pos c147]; exact hT6), hK6⟩
      · skip
        refine jv_iconst (v := nI 1) X dX2_applies_58 rfl ?_
        refine jv_aload_n X dX2_applies_59 3 rfl ?_
        refine jv_iload_n X dX2_applies_60 4 rfl ?_
        refine jv_iconst (v := nI 2) X dX2_applies_61 rfl ?_
        refine jv_ask (jv_runV (As := [.int (nI r), .int (nI 2)]) (rest := [.int (nI 1)]) X dX2_applies_62 (c_X2_ofRule hO hS r 2 (by omega) (by omega)) (lw_V q2142 q2144 qs46 q100 q2145) hd_X2_ofRule md_M_o rfl (Nat.le_of_ble_eq_true rfl) (Nat.le_of_ble_eq_true rfl) (Nat.le_of_ble_eq_true rfl) (Nat.le_of_ble_eq_true rfl) rfl (Nat.le_of_ble_eq_true rfl)) ?_
        refine jv_ishl (w := nI (2 ^ (v_ofRule S r 2))) X dX2_applies_65 (ni_shl1 (by omega)) ?_
        refine jv_istore (lv' := [(5, .int (nI (2 ^ (v_ofRule S r 2)))), (4, .int (nI (v_ofRule S r 0))), (3, .int (nI (v_ofRule S r 3))), (2, .int (nI (v_ofRule S r 1))), (0, .ref o.2.1), (1, .int (nI r))]) X dX2_applies_66 (by decide) rfl ?_
        refine jv_iload X dX2_applies_68 1 rfl ?_
        refine jv_iconst (v := nI 1) X dX2_applies_70 rfl ?_
        have j101_7 : ∀ w_8 : Int32, w_8 = (if (v_ofRule S r 0) = 1 then ((nI (cov S (v_ofRule S r 3) (v_ofRule S r 4))) ^^^ (-1)) else (nI (cov S (v_ofRule S r 3) (v_ofRule S r 4)))) → jv_J x G 7 Q_ (md_M G o F A) 0 0 101 [(5, .int (nI (2 ^ (v_ofRule S r 2)))), (4, .int (nI (v_ofRule S r 0))), (3, .int (nI (v_ofRule S r 3))), (2, .int (nI (v_ofRule S r 1))), (0, .ref o.2.1), (1, .int (nI r))] [.int w_8] := by
          intro w_8 e_w_8
          replace e_w_8 : w_8 = barX S r := e_w_8.trans rfl
          subst e_w_8
          refine jv_istore (lv' := [(6, .int (barX S r)), (5, .int (nI (2 ^ (v_ofRule S r 2)))), (4, .int (nI (v_ofRule S r 0))), (3, .int (nI (v_ofRule S r 3))), (2, .int (nI (v_ofRule S r 1))), (0, .ref o.2.1), (1, .int (nI r))]) X dX2_applies_101 (by decide) rfl ?_
          refine jv_aload_n X dX2_applies_103 5 rfl ?_
          refine jm_getA X dX2_applies_104 12 (by decide) q2022 rfl ?_
          refine jv_iload_n X dX2_applies_107 4 rfl ?_
          refine jm_ld (v := nI (tl T (v_ofRule S r 1))) X hO dX2_applies_108 12 (by decide) (show (v_ofRule S r 1) < 6 from (by omega)) (hT.2.2.1 _ h1) ?_
          refine jv_iload X dX2_applies_109 1 rfl ?_
          refine jn_icmp_ne 122 X dX2_applies_111 (by decide) (Nat.lt_trans (hk.2.1 _ h16) (by decide)) (pow_lt31 (by omega)) (fun c111 => ?_) (fun c111 => ?_)
          · skip
            have hkc := hk
            refine jv_aload_n X dX2_applies_122 5 rfl ?_
            refine jm_getA X dX2_applies_123 12 (by decide) q2022 rfl ?_
            refine jv_iload_n X dX2_applies_126 3 rfl ?_
            refine jm_ld (v := nI (tl T (v_ofRule S r 3))) X hO dX2_applies_127 12 (by decide) (show (v_ofRule S r 3) < 6 from (by omega)) (hT.2.2.1 _ h3) ?_
            refine jv_iload X dX2_applies_128 0 rfl ?_
            refine jv_iconst (v := (-1)) X dX2_applies_130 rfl ?_
            refine jv_ixor (w := (barX S r) ^^^ (-1)) X dX2_applies_131 rfl ?_
            refine jv_iand (w := nI (tl T (v_ofRule S r 3) &&& ux (barX S r ^^^ (-1)))) X dX2_applies_132 (ux_and64 (hk.2.1 _ h36) _) ?_
            refine jn_if_ne 144 X dX2_applies_133 (by decide) (Nat.lt_of_le_of_lt Nat.and_le_left (Nat.lt_trans (hkc.2.1 _ h36) (by decide))) (fun c133 => ?_) (fun c133 => ?_)
            · skip
              refine jv_iload X dX2_applies_144 2 rfl ?_
              refine jv_iconst (v := nI 3) X dX2_applies_146 rfl ?_
              refine jn_icmp_ne 155 X dX2_applies_147 (by decide) (by omega) (by decide) (fun c147 => ?_) (fun c147 => ?_)
              · skip
                exact jv_vret X dX2_applies_155 hQ (Nat.le_of_ble_eq_true rfl) (Nat.le_of_ble_eq_true rfl) ⟨_, _, rfl, (by rw [appT, if_neg c24, if_neg (by omega), tieT]; simp only [tie1x, if_neg c111]; rw [if_neg c133]; exact hT), ktT.rf⟩
              · skip
                exact (by omega)
            · skip
              refine jv_aload_n X dX2_applies_136 5 rfl ?_
              refine jv_iload_n X dX2_applies_137 6 rfl ?_
              refine jv_iload_n X dX2_applies_138 4 rfl ?_
              refine jv_iload X dX2_applies_139 1 rfl ?_
              refine jv_callv (jv_runV (As := [.int (nI r), .int (nI (v_ofRule S r 1)), .int (nI (2 ^ (v_ofRule S r 2)))]) (rest := []) X dX2_applies_141 (c_X2_leaves hO hS hT hk r (v_ofRule S r 1) (nI (2 ^ (v_ofRule S r 2))) h1 hW) (lw_V q2241 q2243 qs61 q100 q2244) hd_X2_leaves md_M_o rfl (Nat.le_of_ble_eq_true rfl) (Nat.le_of_ble_eq_true rfl) (Nat.le_of_ble_eq_true rfl) (Nat.le_of_ble_eq_true rfl) rfl (Nat.le_of_ble_eq_true rfl)) (fun M_ h_ => ?_)
              obtain ⟨F9, A9, rfl, hT9, hK9⟩ := h_
              have hS9 := hK9.S hS
              have hk9 := (hk.lv (who := r) (p := (v_ofRule S r 1)) (Nat.lt_of_lt_of_le h1 hW.p) (nI (2 ^ (v_ofRule S r 2))))
              skip
              refine jv_iload X dX2_applies_144 2 rfl ?_
              refine jv_iconst (v := nI 3) X dX2_applies_146 rfl ?_
              refine jn_icmp_ne 155 X dX2_applies_147 (by decide) (by omega) (by decide) (fun c147 => ?_) (fun c147 => ?_)
              · skip
                exact jv_vret X dX2_applies_155 hQ (Nat.le_of_ble_eq_true rfl) (Nat.le_of_ble_eq_true rfl) ⟨_, _, rfl, (by rw [appT, if_neg c24, if_neg (by omega), tieT]; simp only [tie1x, if_neg c111]; rw [if_pos c133]; exact hT9), hK9⟩
              · skip
                exact (by omega)
          · skip
            refine jv_aload_n X dX2_applies_114 5 rfl ?_
            refine jv_iload_n X dX2_applies_115 6 rfl ?_
            refine jv_iload_n X dX2_applies_116 3 rfl ?_
            refine jv_iload X dX2_applies_117 0 rfl ?_
            refine jv_callv (jv_runV (As := [.int (nI r), .int (nI (v_ofRule S r 3)), .int (barX S r)]) (rest := []) X dX2_applies_119 (c_X2_leaves hO hS hT hk r (v_ofRule S r 3) (barX S r) h3 hW) (lw_V q2241 q2243 qs61 q100 q2244) hd_X2_leaves md_M_o rfl (Nat.le_of_ble_eq_true rfl) (Nat.le_of_ble_eq_true rfl) (Nat.le_of_ble_eq_true rfl) (Nat.le_of_ble_eq_true rfl) rfl (Nat.le_of_ble_eq_true rfl)) (fun M_ h_ => ?_)
            obtain ⟨F10, A10, rfl, hT10, hK10⟩ := h_
            have hS10 := hK10.S hS
            have hk10 := (hk.lv (who := r) (p := (v_ofRule S r 3)) (Nat.lt_of_lt_of_le h3 hW.p) (barX S r))
            skip
            have hkc := hk10
            refine jv_aload_n X dX2_applies_122 5 rfl ?_
            refine jm_getA X dX2_applies_123 12 (by decide) q2022 rfl ?_
            refine jv_iload_n X dX2_applies_126 3 rfl ?_
            refine jm_ld (v := nI (tl (lvT r (v_ofRule S r 3) (barX S r) T) (v_ofRule S r 3))) X hO dX2_applies_127 12 (by decide) (show (v_ofRule S r 3) < 6 from (by omega)) (hT10.2.2.1 _ h3) ?_
            refine jv_iload X dX2_applies_128 0 rfl ?_
            refine jv_iconst (v := (-1)) X dX2_applies_130 rfl ?_
            refine jv_ixor (w := (barX S r) ^^^ (-1)) X dX2_applies_131 rfl ?_
            refine jv_iand (w := nI (tl (lvT r (v_ofRule S r 3) (barX S r) T) (v_ofRule S r 3) &&& ux (barX S r ^^^ (-1)))) X dX2_applies_132 (ux_and64 (hk10.2.1 _ h36) _) ?_
            refine jn_if_ne 144 X dX2_applies_133 (by decide) (Nat.lt_of_le_of_lt Nat.and_le_left (Nat.lt_trans (hkc.2.1 _ h36) (by decide))) (fun c133 => ?_) (fun c133 => ?_)
            · skip
              refine jv_iload X dX2_applies_144 2 rfl ?_
              refine jv_iconst (v := nI 3) X dX2_applies_146 rfl ?_
              refine jn_icmp_ne 155 X dX2_applies_147 (by decide) (by omega) (by decide) (fun c147 => ?_) (fun c147 => ?_)
              · skip
                exact jv_vret X dX2_applies_155 hQ (Nat.le_of_ble_eq_true rfl) (Nat.le_of_ble_eq_true rfl) ⟨_, _, rfl, (by rw [appT, if_neg c24, if_neg (by omega), tieT]; simp only [tie1x, if_pos c111]; rw [if_neg c133]; exact hT10), hK10⟩
              · skip
                exact (by omega)
            · skip
              refine jv_aload_n X dX2_applies_136 5 rfl ?_
              refine jv_iload_n X dX2_applies_137 6 rfl ?_
              refine jv_iload_n X dX2_applies_138 4 rfl ?_
              refine jv_iload X dX2_applies_139 1 rfl ?_
              refine jv_callv (jv_runV (As := [.int (nI r), .int (nI (v_ofRule S r 1)), .int (nI (2 ^ (v_ofRule S r 2)))]) (rest := []) X dX2_applies_141 (c_X2_leaves hO hS10 hT10 hk10 r (v_ofRule S r 1) (nI (2 ^ (v_ofRule S r 2))) h1 hW) (lw_V q2241 q2243 qs61 q100 q2244) hd_X2_leaves md_M_o rfl (Nat.le_of_ble_eq_true rfl) (Nat.le_of_ble_eq_true rfl) (Nat.le_of_ble_eq_true rfl) (Nat.le_of_ble_eq_true rfl) rfl (Nat.le_of_ble_eq_true rfl)) (fun M_ h_ => ?_)
              obtain ⟨F11, A11, rfl, hT11, hK11⟩ := h_
              have hS11 := hK11.S hS10
              have hk11 := (hk10.lv (who := r) (p := (v_ofRule S r 1)) (Nat.lt_of_lt_of_le h1 hW.p) (nI (2 ^ (v_ofRule S r 2))))
              skip
              refine jv_iload X dX2_applies_144 2 rfl ?_
              refine jv_iconst (v := nI 3) X dX2_applies_146 rfl ?_
              refine jn_icmp_ne 155 X dX2_applies_147 (by decide) (by omega) (by decide) (fun c147 => ?_) (fun c147 => ?_)
              · skip
                exact jv_vret X dX2_applies_155 hQ (Nat.le_of_ble_eq_true rfl) (Nat.le_of_ble_eq_true rfl) ⟨_, _, rfl, (by rw [appT, if_neg c24, if_neg (by omega), tieT]; simp only [tie1x, if_pos c111]; rw [if_pos c133]; exact hT11), (hK10.tr hK11)⟩
              · skip
                exact (by omega)
        refine jn_icmp_ne 90 X dX2_applies_71 (by decide) (by omega) (by decide) (fun c71 => ?_) (fun c71 => ?_)
        · skip
          refine jv_aload_n X dX2_applies_90 4 rfl ?_
          refine jv_iload_n X dX2_applies_91 2 rfl ?_
          refine jv_aload_n X dX2_applies_92 4 rfl ?_
          refine jv_iload_n X dX2_applies_93 5 rfl ?_
          refine jv_iconst (v := nI 4) X dX2_applies_94 rfl ?_
          refine jv_ask (jv_runV (As := [.int (nI r), .int (nI 4)]) (rest := [.int (nI (v_ofRule S r 3)), .ref o.2.1]) X dX2_applies_95 (c_X2_ofRule hO hS r 4 (by omega) (by omega)) (lw_V q2142 q2144 qs46 q100 q2145) hd_X2_ofRule md_M_o rfl (Nat.le_of_ble_eq_true rfl) (Nat.le_of_ble_eq_true rfl) (Nat.le_of_ble_eq_true rfl) (Nat.le_of_ble_eq_true rfl) rfl (Nat.le_of_ble_eq_true rfl)) ?_
          refine jv_ask (jv_runV (As := [.int (nI (v_ofRule S r 3)), .int (nI (v_ofRule S r 4))]) (rest := []) X dX2_applies_98 (c_X2_coversOf hO hS (v_ofRule S r 3) (v_ofRule S r 4) (by omega) (by omega) hW) (lw_V q2153 q2155 qs47 q100 q2156) hd_X2_coversOf md_M_o rfl (Nat.le_of_ble_eq_true rfl) (Nat.le_of_ble_eq_true rfl) (Nat.le_of_ble_eq_true rfl) (Nat.le_of_ble_eq_true rfl) rfl (Nat.le_of_ble_eq_true rfl)) ?_
          exact j101_7 _ (if_neg c71).symm
        · skip
          refine jv_aload_n X dX2_applies_74 4 rfl ?_
          refine jv_iload_n X dX2_applies_75 2 rfl ?_
          refine jv_aload_n X dX2_applies_76 4 rfl ?_
          refine jv_iload_n X dX2_applies_77 5 rfl ?_
          refine jv_iconst (v := nI 4) X dX2_applies_78 rfl ?_
          refine jv_ask (jv_runV (As := [.int (nI r), .int (nI 4)]) (rest := [.int (nI (v_ofRule S r 3)), .ref o.2.1]) X dX2_applies_79 (c_X2_ofRule hO hS r 4 (by omega) (by omega)) (lw_V q2142 q2144 qs46 q100 q2145) hd_X2_ofRule md_M_o rfl (Nat.le_of_ble_eq_true rfl) (Nat.le_of_ble_eq_true rfl) (Nat.le_of_ble_eq_true rfl) (Nat.le_of_ble_eq_true rfl) rfl (Nat.le_of_ble_eq_true rfl)) ?_
          refine jv_ask (jv_runV (As := [.int (nI (v_ofRule S r 3)), .int (nI (v_ofRule S r 4))]) (rest := []) X dX2_applies_82 (c_X2_coversOf hO hS (v_ofRule S r 3) (v_ofRule S r 4) (by omega) (by omega) hW) (lw_V q2153 q2155 qs47 q100 q2156) hd_X2_coversOf md_M_o rfl (Nat.le_of_ble_eq_true rfl) (Nat.le_of_ble_eq_true rfl) (Nat.le_of_ble_eq_true rfl) (Nat.le_of_ble_eq_true rfl) rfl (Nat.le_of_ble_eq_true rfl)) ?_
          refine jv_iconst (v := (-1)) X dX2_applies_85 rfl ?_
          refine jv_ixor (w := (nI (cov S (v_ofRule S r 3) (v_ofRule S r 4))) ^^^ (-1)) X dX2_applies_86 rfl ?_
          refine jv_goto 101 X dX2_applies_87 (by decide) ?_
          exact j101_7 _ (if_pos c71).symm
  · skip
    refine jv_aload_n X dX2_applies_27 3 rfl ?_
    refine jv_iload_n X dX2_applies_28 4 rfl ?_
    refine jv_iload_n X dX2_applies_29 2 rfl ?_
    refine jv_aload_n X dX2_applies_30 3 rfl ?_
    refine jv_iload_n X dX2_applies_31 2 rfl ?_
    refine jv_aload_n X dX2_applies_32 3 rfl ?_
    refine jv_iload_n X dX2_applies_33 4 rfl ?_
    refine jv_iconst (v := nI 4) X dX2_applies_34 rfl ?_
    refine jv_ask (jv_runV (As := [.int (nI r), .int (nI 4)]) (rest := [.int (nI (v_ofRule S r 1)), .ref o.2.1, .int (nI (v_ofRule S r 1)), .int (nI r), .ref o.2.1]) X dX2_applies_35 (c_X2_ofRule hO hS r 4 (by omega) (by omega)) (lw_V q2142 q2144 qs46 q100 q2145) hd_X2_ofRule md_M_o rfl (Nat.le_of_ble_eq_true rfl) (Nat.le_of_ble_eq_true rfl) (Nat.le_of_ble_eq_true rfl) (Nat.le_of_ble_eq_true rfl) rfl (Nat.le_of_ble_eq_true rfl)) ?_
    refine jv_ask (jv_runV (As := [.int (nI (v_ofRule S r 1)), .int (nI (v_ofRule S r 4))]) (rest := [.int (nI (v_ofRule S r 1)), .int (nI r), .ref o.2.1]) X dX2_applies_38 (c_X2_coversOf hO hS (v_ofRule S r 1) (v_ofRule S r 4) (by omega) (by omega) hW) (lw_V q2153 q2155 qs47 q100 q2156) hd_X2_coversOf md_M_o rfl (Nat.le_of_ble_eq_true rfl) (Nat.le_of_ble_eq_true rfl) (Nat.le_of_ble_eq_true rfl) (Nat.le_of_ble_eq_true rfl) rfl (Nat.le_of_ble_eq_true rfl)) ?_
    refine jv_iconst (v := (-1)) X dX2_applies_41 rfl ?_
    refine jv_ixor (w := (nI (cov S (v_ofRule S r 1) (v_ofRule S r 4))) ^^^ (-1)) X dX2_applies_42 rfl ?_
    refine jv_callv (jv_runV (As := [.int (nI r), .int (nI (v_ofRule S r 1)), .int ((nI (cov S (v_ofRule S r 1) (v_ofRule S r 4))) ^^^ (-1))]) (rest := []) X dX2_applies_43 (c_X2_leaves hO hS hT hk r (v_ofRule S r 1) ((nI (cov S (v_ofRule S r 1) (v_ofRule S r 4))) ^^^ (-1)) h1 hW) (lw_V q2241 q2243 qs61 q100 q2244) hd_X2_leaves md_M_o rfl (Nat.le_of_ble_eq_true rfl) (Nat.le_of_ble_eq_true rfl) (Nat.le_of_ble_eq_true rfl) (Nat.le_of_ble_eq_true rfl) rfl (Nat.le_of_ble_eq_true rfl)) (fun M_ h_ => ?_)
    obtain ⟨F12, A12, rfl, hT12, hK12⟩ := h_
    have hS12 := hK12.S hS
    have hk12 := (hk.lv (who := r) (p := (v_ofRule S r 1)) (Nat.lt_of_lt_of_le h1 hW.p) ((nI (cov S (v_ofRule S r 1) (v_ofRule S r 4))) ^^^ (-1)))
    skip
    refine jv_iload X dX2_applies_46 0 rfl ?_
    refine jv_iconst (v := nI 1) X dX2_applies_48 rfl ?_
    refine jn_icmp_eq 58 X dX2_applies_49 (by decide) (by omega) (by decide) (fun c49 => ?_) (fun c49 => ?_)
    · skip
      exact (by omega)
    · skip
      refine jv_iload X dX2_applies_52 0 rfl ?_
      refine jv_iconst (v := nI 2) X dX2_applies_54 rfl ?_
      refine jn_icmp_ne 144 X dX2_applies_55 (by decide) (by omega) (by decide) (fun c55 => ?_) (fun c55 => ?_)
      · skip
        refine jv_iload X dX2_applies_144 0 rfl ?_
        refine jv_iconst (v := nI 3) X dX2_applies_146 rfl ?_
        refine jn_icmp_ne 155 X dX2_applies_147 (by decide) (by omega) (by decide) (fun c147 => ?_) (fun c147 => ?_)
        · skip
          exact jv_vret X dX2_applies_155 hQ (Nat.le_of_ble_eq_true rfl) (Nat.le_of_ble_eq_true rfl) ⟨_, _, rfl, (by rw [appT, if_pos c24]; exact hT12), hK12⟩
        · skip
          exact (by omega)
      · skip
        exact (by omega)
theorem hd_X2_follows : jv_dd yX2_follows 0 := by unfold jv_dd; decide +kernel
set_option maxHeartbeats 4000000 in
theorem c_X2_follows {l : Launch} {G : jv_G} {o : md_O} {F : Nat → Int32} {A : Nat → Nat → Int32} {S : Nat → Nat} (hO : md_K G o) (hS : ∀ j, j < 237 → A 0 j = nI (S j)) {T : t_T2} (hT : isT S F A T) (hk : okT T)  (hWs : wfS S) : jv_Ct G l yX2_follows cX2_follows 4 (none) 4 0 0 99 [.ref o.2.1] (md_M G o F A) (jv_qv G (mT G o S F A (folT S T))) := by
  refine jv_Ct.of (lv := [(0, .ref o.2.1)]) (by decide) (Nat.le_of_ble_eq_true rfl) rfl ?_
  intro x Q_ hl_ hQ X
  subst hl_
  have hW := hWs.1
  have hrr := hW.r
  refine jv_iconst (v := nI 0) X dX2_follows_0 rfl ?_
  refine jv_istore_n (lv' := [(1, .int (nI 0)), (0, .ref o.2.1)]) X dX2_follows_1 rfl (by decide) rfl ?_
  refine jv_iconst (v := nI 0) X dX2_follows_2 rfl ?_
  refine jv_istore_n (lv' := [(2, .int (nI 0)), (1, .int (nI 0)), (0, .ref o.2.1)]) X dX2_follows_3 rfl (by decide) rfl ?_
  have lp4_1 : ∀ (d_4 : Nat) (e : Nat) (q : Nat) (r : Nat) (F1 : Nat → Int32) (A1 : Nat → Nat → Int32) (T1 : t_T2), isT S F1 A1 T1 → okT T1 → (∀ j, j < 237 → A1 0 j = nI (S j)) → ktT F A F1 A1 → (0 < S 1 → r < S 1) → q ≤ S 1 → folM S q T1 < e → folN S e q r T1 = folT S T → folM S q T1 < d_4 → jv_J x G 4 Q_ (md_M G o F1 A1) 0 0 4 [(0, .ref o.2.1), (1, .int (nI q)), (2, .int (nI r))] [] := by
    intro d_4
    induction d_4 with
    | zero => intro e q r F1 A1 T1 hT1 hk1 hS1 hK1 hr hq he hf hm_4; exact absurd hm_4 (Nat.not_lt_zero _)
    | succ d_4 ih_4 =>
      intro e q r F1 A1 T1 hT1 hk1 hS1 hK1 hr hq he hf hm_4
      refine jv_aload_n X dX2_follows_4 0 rfl ?_
      refine jm_getF (v := cI (tc T1)) X dX2_follows_5 17 (by decide) q2027 rfl hT1.2.1 ?_
      refine jv_iconst (v := (-1)) X dX2_follows_8 rfl ?_
      refine jv_icmp_ne 62 X dX2_follows_9 (by decide) (fun c9 => ?_) (fun c9 => ?_)
      · skip
        exact jv_vret X dX2_follows_62 hQ (Nat.le_of_ble_eq_true rfl) (Nat.le_of_ble_eq_true rfl) ⟨_, _, rfl, (by rw [← hf, folN_s (show 0 < e by omega), if_neg (fun z => c9 ((cI_m1 hk1.2.2).mpr z))]; exact hT1), hK1⟩
      · skip
        have hc6 := (cI_m1 hk1.2.2).mp c9
        refine jv_iload_n X dX2_follows_12 1 rfl ?_
        refine jv_aload_n X dX2_follows_13 0 rfl ?_
        refine jm_getA X dX2_follows_14 0 (by decide) q2010 rfl ?_
        refine jv_iconst (v := nI 1) X dX2_follows_17 rfl ?_
        refine jm_ld (v := nI (S 1)) X hO dX2_follows_18 0 (by decide) (show 1 < 237 from (by omega)) (hS1 _ (by omega)) ?_
        refine jn_icmp_ge 62 X dX2_follows_19 (by decide) (by omega) (by omega) (fun c19 => ?_) (fun c19 => ?_)
        · skip
          exact jv_vret X dX2_follows_62 hQ (Nat.le_of_ble_eq_true rfl) (Nat.le_of_ble_eq_true rfl) ⟨_, _, rfl, (by rw [← hf, folN_s (show 0 < e by omega), if_pos hc6, if_pos c19]; exact hT1), hK1⟩
        · skip
          have hr1 := hr (by omega)
          refine jv_aload_n X dX2_follows_22 0 rfl ?_
          refine jm_getF (v := nI (tn T1)) X dX2_follows_23 16 (by decide) q2026 rfl hT1.1 ?_
          have hn1 := hk1.1
          refine jv_istore_n (lv' := [(3, .int (nI (tn T1))), (0, .ref o.2.1), (1, .int (nI q)), (2, .int (nI r))]) X dX2_follows_26 rfl (by decide) rfl ?_
          refine jv_aload_n X dX2_follows_27 1 rfl ?_
          refine jv_iload_n X dX2_follows_28 3 rfl ?_
          refine jv_callv (jv_runV (As := [.int (nI r)]) (rest := []) X dX2_follows_29 (c_X2_applies hO hS1 hT1 hk1 r hr1 hWs) (lw_V q2237 q2239 qs60 q100 q2240) hd_X2_applies md_M_o rfl (Nat.le_of_ble_eq_true rfl) (Nat.le_of_ble_eq_true rfl) (Nat.le_of_ble_eq_true rfl) (Nat.le_of_ble_eq_true rfl) rfl (Nat.le_of_ble_eq_true rfl)) (fun M_ h_ => ?_)
          obtain ⟨F2, A2, rfl, hT2, hK2⟩ := h_
          have hS2 := hK2.S hS1
          have hk2 := (hk1.app hW (r := r) (by have := hW.r; omega))
          skip
          have hn2 := hk2.1
          refine jv_aload_n X dX2_follows_32 1 rfl ?_
          refine jm_getF (v := nI (tn (appT S r T1))) X dX2_follows_33 16 (by decide) q2026 rfl hT2.1 ?_
          refine jv_iload_n X dX2_follows_36 0 rfl ?_
          have j47_3 : ∀ wq : Nat, wq = (if (tn (appT S r T1)) = (tn T1) then (q + 1) else 0) → jv_J x G 4 Q_ (md_M G o F2 A2) 0 0 47 [(3, .int (nI (tn T1))), (0, .ref o.2.1), (1, .int (nI q)), (2, .int (nI r))] [.int (nI wq)] := by
            intro wq e_wq
            refine jv_istore_n (lv' := [(1, .int (nI wq)), (3, .int (nI (tn T1))), (0, .ref o.2.1), (2, .int (nI r))]) X dX2_follows_47 rfl (by decide) rfl ?_
            refine jv_iload_n X dX2_follows_48 3 rfl ?_
            refine jv_iconst (v := nI 1) X dX2_follows_49 rfl ?_
            refine jv_iadd (w := nI (r + 1)) X dX2_follows_50 (nI_add _ _) ?_
            refine jv_aload_n X dX2_follows_51 2 rfl ?_
            refine jm_getA X dX2_follows_52 0 (by decide) q2010 rfl ?_
            refine jv_iconst (v := nI 1) X dX2_follows_55 rfl ?_
            refine jm_ld (v := nI (S 1)) X hO dX2_follows_56 0 (by decide) (show 1 < 237 from (by omega)) (hS2 _ (by omega)) ?_
            refine jv_irem (w := nI ((r + 1) % (S 1))) X dX2_follows_57 (ni_nz (by omega) (by omega)) (pk_rem (by omega) (by omega) (by omega)) ?_
            refine jv_istore_n (lv' := [(2, .int (nI ((r + 1) % (S 1)))), (1, .int (nI wq)), (3, .int (nI (tn T1))), (0, .ref o.2.1)]) X dX2_follows_58 rfl (by decide) rfl ?_
            refine jv_goto 4 X dX2_follows_59 (by decide) ?_
            refine jv_lv (lv' := [(0, .ref o.2.1), (1, .int (nI wq)), (2, .int (nI ((r + 1) % (S 1))))]) [3, 1, 0] rfl ?_
            have hdn := folM_dn (S := S) (q := q) (r := r) (T := T1) (okT.app hW (by omega) hk1) (by omega)
            exact ih_4 (e - 1) wq ((r + 1) % (S 1)) F2 A2 (appT S r T1) hT2 hk2 hS2 (hK1.tr hK2) (fun _ => Nat.mod_lt _ (by omega)) (by rw [e_wq]; split <;> omega) (by rw [e_wq]; omega) (by rw [← hf, folN_s (show 0 < e by omega), if_pos hc6, if_neg (by omega), e_wq]) (by rw [e_wq]; omega)
          refine jn_icmp_ne 46 X dX2_follows_37 (by decide) (by omega) (by omega) (fun c37 => ?_) (fun c37 => ?_)
          · skip
            refine jv_iconst (v := nI 0) X dX2_follows_46 rfl ?_
            exact j47_3 _ (if_neg c37).symm
          · skip
            refine jv_iload_n X dX2_follows_40 2 rfl ?_
            refine jv_iconst (v := nI 1) X dX2_follows_41 rfl ?_
            refine jv_iadd (w := nI (q + 1)) X dX2_follows_42 (nI_add _ _) ?_
            refine jv_goto 47 X dX2_follows_43 (by decide) ?_
            exact j47_3 _ (if_pos c37).symm
  refine jv_lv (lv' := [(0, .ref o.2.1), (1, .int (nI 0)), (2, .int (nI 0))]) [2, 1, 0] rfl ?_
  exact lp4_1 (folM S 0 T + 1) 1200 0 0 F A T hT hk hS ktT.rf (fun z => z) (Nat.zero_le _) (folM_0 hW T) rfl (Nat.lt_succ_self _)
theorem hd_X2_goes : jv_dd yX2_goes 1 := by unfold jv_dd; decide +kernel
set_option maxHeartbeats 4000000 in
theorem c_X2_goes {l : Launch} {G : jv_G} {o : md_O} {F : Nat → Int32} {A : Nat → Nat → Int32} {S : Nat → Nat} (hO : md_K G o) (hS : ∀ j, j < 237 → A 0 j = nI (S j)) (m : Int32) (hWs : wfS S) : jv_Ct G l yX2_goes cX2_goes 3 (none) 5 0 0 122 [.ref o.2.1, .int m] (md_M G o F A) (jv_qv G (mT G o S F A (goT S m))) := by
  refine jv_Ct.of (lv := [(0, .ref o.2.1), (1, .int m)]) (by decide) (Nat.le_of_ble_eq_true rfl) rfl ?_
  intro x Q_ hl_ hQ X
  subst hl_
  have hW := hWs.1
  have hS0 := hW.p
  have hS2_ := hW.a
  refine jv_aload_n X dX2_goes_0 0 rfl ?_
  refine jv_iconst (v := nI 0) X dX2_goes_1 rfl ?_
  refine jm_putF (ty := .int) (v := nI 0) X hO dX2_goes_2 16 (by decide) q2026 rfl rfl rfl rfl rfl ?_
  refine jv_aload_n X dX2_goes_5 0 rfl ?_
  refine jv_iconst (v := (-1)) X dX2_goes_6 rfl ?_
  refine jm_putF (ty := .int) (v := (-1)) X hO dX2_goes_7 17 (by decide) q2027 rfl rfl rfl rfl rfl ?_
  obtain ⟨F1, hF1⟩ : ∃ F1, F1 = upd (upd F 16 (nI 0)) 17 (-1) := ⟨_, rfl⟩
  rw [← hF1]
  refine jv_iconst (v := nI 0) X dX2_goes_10 rfl ?_
  refine jv_istore_n (lv' := [(2, .int (nI 0)), (0, .ref o.2.1), (1, .int m)]) X dX2_goes_11 rfl (by decide) rfl ?_
  have lp12_1 : ∀ (d_12 : Nat) (p : Nat) (A1 : Nat → Nat → Int32), p ≤ S 0 → (∀ q, q < p → A1 12 q = nI (v_allStates S q)) → (∀ k, k ≠ 12 → A1 k = A k) → S 0 - p < d_12 → jv_J x G 3 Q_ (md_M G o F1 A1) 0 0 12 [(0, .ref o.2.1), (1, .int m), (2, .int (nI p))] [] := by
    intro d_12
    induction d_12 with
    | zero => intro p A1 hp hA1 hB1 hm_12; exact absurd hm_12 (Nat.not_lt_zero _)
    | succ d_12 ih_12 =>
      intro p A1 hp hA1 hB1 hm_12
      have hS1 : ∀ j, j < 237 → A1 0 j = nI (S j) := fun j hj => by rw [hB1 0 (by decide)]; exact hS j hj
      refine jv_iload_n X dX2_goes_12 2 rfl ?_
      refine jv_aload_n X dX2_goes_13 0 rfl ?_
      refine jm_getA X dX2_goes_14 0 (by decide) q2010 rfl ?_
      refine jv_iconst (v := nI 0) X dX2_goes_17 rfl ?_
      refine jm_ld (v := nI (S 0)) X hO dX2_goes_18 0 (by decide) (show 0 < 237 from (by omega)) (hS1 _ (by omega)) ?_
      refine jn_icmp_ge 39 X dX2_goes_19 (by decide) (by omega) (by omega) (fun c19 => ?_) (fun c19 => ?_)
      · skip
        have hT1 : isT S F1 A1 (t0T S) := ⟨by rw [hF1]; simp [upd]; rfl, by rw [hF1]; simp [upd]; rfl, fun q hq => by rw [hA1 q (by omega)]; show nI _ = nI (if q < S 0 then _ else 0); rw [if_pos hq], fun q hq => absurd hq (Nat.not_lt_zero _), fun q hq => absurd hq (Nat.not_lt_zero _), fun q hq => absurd hq (Nat.not_lt_zero _)⟩
        have hK1 : ktT F A F1 A1 := ⟨fun q a b => by rw [hF1]; simp [upd, a, b], fun q a _ _ _ => hB1 q a⟩
        refine jv_aload_n X dX2_goes_39 0 rfl ?_
        refine jv_callv (jv_runV (As := []) (rest := []) X dX2_goes_40 (c_X2_follows hO hS1 hT1 (okT.t0 hW) hWs) (lw_V q2233 q2235 qs59 q100 q2236) hd_X2_follows md_M_o rfl (Nat.le_of_ble_eq_true rfl) (Nat.le_of_ble_eq_true rfl) (Nat.le_of_ble_eq_true rfl) (Nat.le_of_ble_eq_true rfl) rfl (Nat.le_of_ble_eq_true rfl)) (fun M_ h_ => ?_)
        obtain ⟨F2, A2, rfl, hT2, hK2⟩ := h_
        have hS2 := hK2.S hS1
        have hk2 := okT.foT hW (okT.t0 hW)
        skip
        refine jv_iconst (v := nI 0) X dX2_goes_43 rfl ?_
        refine jv_istore_n (lv' := [(2, .int (nI 0)), (0, .ref o.2.1), (1, .int m)]) X dX2_goes_44 rfl (by decide) rfl ?_
        have lp45_3 : ∀ (d_45 : Nat) (a : Nat) (F2 : Nat → Int32) (A2 : Nat → Nat → Int32) (T2 : t_T2), a ≤ S 2 → isT S F2 A2 T2 → okT T2 → (∀ j, j < 237 → A2 0 j = nI (S j)) → ktT F A F2 A2 → goN S m (S 2 - a) a T2 = goT S m → S 2 - a < d_45 → jv_J x G 3 Q_ (md_M G o F2 A2) 0 0 45 [(0, .ref o.2.1), (1, .int m), (2, .int (nI a))] [] := by
          intro d_45
          induction d_45 with
          | zero => intro a F2 A2 T2 ha hT2 hk2 hS2 hK2 hf hm_45; exact absurd hm_45 (Nat.not_lt_zero _)
          | succ d_45 ih_45 =>
            intro a F2 A2 T2 ha hT2 hk2 hS2 hK2 hf hm_45
            refine jv_iload_n X dX2_goes_45 2 rfl ?_
            refine jv_aload_n X dX2_goes_46 0 rfl ?_
            refine jm_getA X dX2_goes_47 0 (by decide) q2010 rfl ?_
            refine jv_iconst (v := nI 2) X dX2_goes_50 rfl ?_
            refine jm_ld (v := nI (S 2)) X hO dX2_goes_51 0 (by decide) (show 2 < 237 from (by omega)) (hS2 _ (by omega)) ?_
            refine jn_icmp_ge 120 X dX2_goes_52 (by decide) (by omega) (by omega) (fun c52 => ?_) (fun c52 => ?_)
            · skip
              exact jv_vret X dX2_goes_120 hQ (Nat.le_of_ble_eq_true rfl) (Nat.le_of_ble_eq_true rfl) ⟨_, _, rfl, (by rw [← hf, show S 2 - a = 0 by omega]; exact hT2), hK2⟩
            · skip
              refine jv_aload_n X dX2_goes_55 0 rfl ?_
              refine jm_getF (v := cI (tc T2)) X dX2_goes_56 17 (by decide) q2027 rfl hT2.2.1 ?_
              refine jv_iconst (v := (-1)) X dX2_goes_59 rfl ?_
              refine jv_icmp_ne 120 X dX2_goes_60 (by decide) (fun c60 => ?_) (fun c60 => ?_)
              · skip
                exact jv_vret X dX2_goes_120 hQ (Nat.le_of_ble_eq_true rfl) (Nat.le_of_ble_eq_true rfl) ⟨_, _, rfl, (by rw [← hf, goN_s (show 0 < S 2 - a by omega), if_neg (fun z => c60 ((cI_m1 hk2.2.2).mpr z))]; exact hT2), hK2⟩
              · skip
                have hc6 := (cI_m1 hk2.2.2).mp c60
                have ha6 : a < 6 := by omega
                have hp0 := hWs.2.2.1 a (by omega)
                have hs6 := hW.a1 ha6
                refine jv_iload_n X dX2_goes_63 1 rfl ?_
                refine jv_iload_n X dX2_goes_64 2 rfl ?_
                refine jv_ishr (w := m >>> ((nI a) &&& 31)) X dX2_goes_65 rfl ?_
                refine jv_iconst (v := nI 1) X dX2_goes_66 rfl ?_
                refine jv_iand (w := (m >>> ((nI a) &&& 31)) &&& (nI 1)) X dX2_goes_67 rfl ?_
                refine jv_iconst (v := nI 1) X dX2_goes_68 rfl ?_
                refine jv_icmp_ne 114 X dX2_goes_69 (by decide) (fun c69 => ?_) (fun c69 => ?_)
                · skip
                  refine jv_iinc (v := nI (a + 1)) (lv' := [(2, .int (nI (a + 1))), (0, .ref o.2.1), (1, .int m)]) X dX2_goes_114 2 rfl (nI_1 _) (by decide) rfl ?_
                  refine jv_goto 45 X dX2_goes_117 (by decide) ?_
                  refine jv_lv (lv' := [(0, .ref o.2.1), (1, .int m), (2, .int (nI (a + 1)))]) [1, 2, 0] rfl ?_
                  exact ih_45 (a + 1) F2 A2 T2 (by omega) hT2 hk2 hS2 hK2 (by rw [← hf, goN_s (show 0 < S 2 - a by omega), if_pos hc6, if_neg c69, show S 2 - a - 1 = S 2 - (a + 1) by omega]) (by omega)
                · skip
                  refine jv_aload_n X dX2_goes_72 0 rfl ?_
                  refine jv_bipush (v := nI 100) X dX2_goes_73 rfl ?_
                  refine jv_iload_n X dX2_goes_75 2 rfl ?_
                  refine jv_iadd (w := nI (100 + a)) X dX2_goes_76 (nI_add _ _) ?_
                  refine jv_aload_n X dX2_goes_77 0 rfl ?_
                  refine jm_getA X dX2_goes_78 0 (by decide) q2010 rfl ?_
                  refine jv_sipush (v := nI 225) X dX2_goes_81 rfl ?_
                  refine jv_iconst (v := nI 2) X dX2_goes_84 rfl ?_
                  refine jv_iload_n X dX2_goes_85 2 rfl ?_
                  refine jv_imul (w := nI (2 * a)) X dX2_goes_86 (pk_mul _ _) ?_
                  refine jv_iadd (w := nI (225 + (2 * a))) X dX2_goes_87 (nI_add _ _) ?_
                  refine jm_ld (v := nI (v_asm S a 0)) X hO dX2_goes_88 0 (by decide) (show (225 + (2 * a)) < 237 from (by omega)) (hS2 _ (by omega)) ?_
                  refine jv_iconst (v := nI 1) X dX2_goes_89 rfl ?_
                  refine jv_aload_n X dX2_goes_90 0 rfl ?_
                  refine jm_getA X dX2_goes_91 0 (by decide) q2010 rfl ?_
                  refine jv_sipush (v := nI 225) X dX2_goes_94 rfl ?_
                  refine jv_iconst (v := nI 2) X dX2_goes_97 rfl ?_
                  refine jv_iload_n X dX2_goes_98 2 rfl ?_
                  refine jv_imul (w := nI (2 * a)) X dX2_goes_99 (pk_mul _ _) ?_
                  refine jv_iadd (w := nI (225 + (2 * a))) X dX2_goes_100 (nI_add _ _) ?_
                  refine jv_iconst (v := nI 1) X dX2_goes_101 rfl ?_
                  refine jv_iadd (w := nI ((225 + (2 * a)) + 1)) X dX2_goes_102 (nI_add _ _) ?_
                  refine jm_ld (v := nI (v_asm S a 1)) X hO dX2_goes_103 0 (by decide) (show ((225 + (2 * a)) + 1) < 237 from (by omega)) (hS2 _ (by omega)) ?_
                  refine jv_ishl (w := nI (2 ^ (v_asm S a 1))) X dX2_goes_104 (ni_shl1 (by omega)) ?_
                  refine jv_iconst (v := (-1)) X dX2_goes_105 rfl ?_
                  refine jv_ixor (w := unv (2 ^ v_asm S a 1)) X dX2_goes_106 rfl ?_
                  refine jv_callv (jv_runV (As := [.int (nI (100 + a)), .int (nI (v_asm S a 0)), .int (unv (2 ^ v_asm S a 1))]) (rest := []) X dX2_goes_107 (c_X2_leaves hO hS2 hT2 hk2 (100 + a) (v_asm S a 0) (unv (2 ^ v_asm S a 1)) hp0 hW) (lw_V q2241 q2243 qs61 q100 q2244) hd_X2_leaves md_M_o rfl (Nat.le_of_ble_eq_true rfl) (Nat.le_of_ble_eq_true rfl) (Nat.le_of_ble_eq_true rfl) (Nat.le_of_ble_eq_true rfl) rfl (Nat.le_of_ble_eq_true rfl)) (fun M_ h_ => ?_)
                  obtain ⟨F4, A4, rfl, hT4, hK4⟩ := h_
                  have hS4 := hK4.S hS2
                  have hk4 := (hk2.lv (who := (100 + a)) (p := (v_asm S a 0)) (Nat.lt_of_lt_of_le hp0 hW.p) (unv (2 ^ v_asm S a 1)))
                  skip
                  refine jv_aload_n X dX2_goes_110 0 rfl ?_
                  refine jv_callv (jv_runV (As := []) (rest := []) X dX2_goes_111 (c_X2_follows hO hS4 hT4 hk4 hWs) (lw_V q2233 q2235 qs59 q100 q2236) hd_X2_follows md_M_o rfl (Nat.le_of_ble_eq_true rfl) (Nat.le_of_ble_eq_true rfl) (Nat.le_of_ble_eq_true rfl) (Nat.le_of_ble_eq_true rfl) rfl (Nat.le_of_ble_eq_true rfl)) (fun M_ h_ => ?_)
                  obtain ⟨F5, A5, rfl, hT5, hK5⟩ := h_
                  have hS5 := hK5.S hS4
                  have hk5 := okT.foT hW hk4
                  skip
                  refine jv_iinc (v := nI (a + 1)) (lv' := [(2, .int (nI (a + 1))), (0, .ref o.2.1), (1, .int m)]) X dX2_goes_114 2 rfl (nI_1 _) (by decide) rfl ?_
                  refine jv_goto 45 X dX2_goes_117 (by decide) ?_
                  refine jv_lv (lv' := [(0, .ref o.2.1), (1, .int m), (2, .int (nI (a + 1)))]) [1, 2, 0] rfl ?_
                  exact ih_45 (a + 1) F5 A5 (folT S (lvT (100 + a) (v_asm S a 0) (unv (2 ^ v_asm S a 1)) T2)) (by omega) hT5 hk5 hS5 ((hK2.tr hK4).tr hK5) (by rw [← hf, goN_s (show 0 < S 2 - a by omega), if_pos hc6, if_pos c69, show S 2 - a - 1 = S 2 - (a + 1) by omega]) (by omega)
        refine jv_lv (lv' := [(0, .ref o.2.1), (1, .int m), (2, .int (nI 0))]) [1, 2, 0] rfl ?_
        exact lp45_3 (S 2 + 1) 0 F2 A2 (folT S (t0T S)) (Nat.zero_le _) hT2 hk2 hS2 (hK1.tr hK2) rfl (by omega)
      · skip
        refine jv_aload_n X dX2_goes_22 0 rfl ?_
        refine jm_getA X dX2_goes_23 12 (by decide) q2022 rfl ?_
        refine jv_iload_n X dX2_goes_26 2 rfl ?_
        refine jv_aload_n X dX2_goes_27 0 rfl ?_
        refine jv_iload_n X dX2_goes_28 2 rfl ?_
        refine jv_ask (jv_runV (As := [.int (nI p)]) (rest := [.int (nI p), .ref (o.2.2 12)]) X dX2_goes_29 (c_X2_allStates hO hS1 p (by omega) hW) (lw_V q2229 q2231 qs58 q100 q2232) hd_X2_allStates md_M_o rfl (Nat.le_of_ble_eq_true rfl) (Nat.le_of_ble_eq_true rfl) (Nat.le_of_ble_eq_true rfl) (Nat.le_of_ble_eq_true rfl) rfl (Nat.le_of_ble_eq_true rfl)) ?_
        refine jm_st (v := nI (v_allStates S p)) X hO dX2_goes_32 12 (by decide) (show p < 6 from (by omega)) ?_
        refine jv_iinc (v := nI (p + 1)) (lv' := [(2, .int (nI (p + 1))), (0, .ref o.2.1), (1, .int m)]) X dX2_goes_33 2 rfl (nI_1 _) (by decide) rfl ?_
        refine jv_goto 12 X dX2_goes_36 (by decide) ?_
        refine jv_lv (lv' := [(0, .ref o.2.1), (1, .int m), (2, .int (nI (p + 1)))]) [1, 2, 0] rfl ?_
        exact ih_12 (p + 1) (mdA A1 12 p (nI (v_allStates S p))) (by omega) (fun q hq => by by_cases e : q = p; (rw [e, mdA_s]); (rw [mdA_o e]; exact hA1 q (by omega))) (fun q hq => by rw [mdA_i hq]; exact hB1 q hq) (by omega)
  refine jv_lv (lv' := [(0, .ref o.2.1), (1, .int m), (2, .int (nI 0))]) [1, 2, 0] rfl ?_
  exact lp12_1 (S 0 + 1) 0 A (Nat.zero_le _) (fun q hq => absurd hq (Nat.not_lt_zero _)) (fun _ _ => rfl) (by omega)
theorem hd_X2_goesAll : jv_dd yX2_goesAll 0 := by unfold jv_dd; decide +kernel
set_option maxHeartbeats 4000000 in
theorem c_X2_goesAll {l : Launch} {G : jv_G} {o : md_O} {F : Nat → Int32} {A : Nat → Nat → Int32} {S : Nat → Nat} (hO : md_K G o) (hS : ∀ j, j < 237 → A 0 j = nI (S j))  (hWs : wfS S) : jv_Ct G l yX2_goesAll cX2_goesAll 1 (none) 6 0 0 144 [.ref o.2.1] (md_M G o F A) (jv_qv G (mT G o S F A (gA S))) := by
  refine jv_Ct.of (lv := [(0, .ref o.2.1)]) (by decide) (Nat.le_of_ble_eq_true rfl) rfl ?_
  intro x Q_ hl_ hQ X
  subst hl_
  have hW := hWs.1
  refine jv_aload_n X dX2_goesAll_0 0 rfl ?_
  refine jv_bipush (v := nI 63) X dX2_goesAll_1 rfl ?_
  refine jv_callv (jv_runV (As := [.int (nI 63)]) (rest := []) X dX2_goesAll_3 (c_X2_goes hO hS (nI 63) hWs) (lw_V q2225 q2227 qs57 q100 q2228) hd_X2_goes md_M_o rfl (Nat.le_of_ble_eq_true rfl) (Nat.le_of_ble_eq_true rfl) (Nat.le_of_ble_eq_true rfl) (Nat.le_of_ble_eq_true rfl) rfl (Nat.le_of_ble_eq_true rfl)) (fun M_ h_ => ?_)
  obtain ⟨F1, A1, rfl, hT1, hK1⟩ := h_
  have hS1 := hK1.S hS
  have hk1 := okT.got hW (nI 63)
  skip
  exact jv_vret X dX2_goesAll_6 hQ (Nat.le_of_ble_eq_true rfl) (Nat.le_of_ble_eq_true rfl) ⟨_, _, rfl, hT1, hK1⟩
