/-! reference, sixth -/
set_option maxRecDepth 100000
theorem packS_0 {S : Nat → Nat} : ∀ {q : Nat}, q ≤ 7 → packS S q 0 = S 0
  | 0, _ => rfl
  | q + 1, h => by
    unfold packS up2
    rw [if_neg (by omega)]
    exact packS_0 (by omega)
theorem hd_X2_pack : jv_dd yX2_pack 0 := by unfold jv_dd; decide +kernel
set_option maxHeartbeats 4000000 in
theorem c_X2_pack {l : Launch} {G : jv_G} {o : md_O} {F : Nat → Int32} {A : Nat → Nat → Int32} {S : Nat → Nat} (hO : md_K G o) (hS : ∀ j, j < 237 → A 0 j = nI (S j)) {z : t_Z} (hz : isZ F A z) (hk8 : zk z ≤ 8) (hW : wfB S)   : jv_Ct G l yX2_pack cX2_pack 3 (some .int) 1 0 0 22 [.ref o.2.1] (md_M G o F A) (jv_qi G (fun r M' => ∃ F' A', M' = md_M G o F' A' ∧ r = (m_pack z S).1 ∧ isZ F' A' (m_pack z S).2)) := by
  refine jv_Ct.of (lv := [(0, .ref o.2.1)]) (by decide) (Nat.le_of_ble_eq_true rfl) rfl ?_
  intro x Q_ hl_ hQ X
  subst hl_
  have hS0 := hW.p
  refine jv_aload_n X dX2_pack_0 0 rfl ?_
  refine jv_callv (jv_runV (As := []) (rest := []) X dX2_pack_1 (c_X2_remembers hO hS) (lw_V q2096 q2098 qs39 q100 q2099) hd_X2_remembers md_M_o rfl (Nat.le_of_ble_eq_true rfl) (Nat.le_of_ble_eq_true rfl) (Nat.le_of_ble_eq_true rfl) (Nat.le_of_ble_eq_true rfl) rfl (Nat.le_of_ble_eq_true rfl)) (fun M_ h_ => ?_)
  obtain ⟨A1, rfl, h1⟩ := h_
  have hS1 : ∀ j, j < 237 → A1 0 j = nI (S j) := fun j hj => by rw [h1.1 0 (by decide)]; exact hS j hj
  refine jv_aload_n X dX2_pack_4 0 rfl ?_
  refine jm_getA X dX2_pack_5 0 (by decide) q2010 rfl ?_
  refine jv_iconst (v := nI 0) X dX2_pack_8 rfl ?_
  refine jm_ld (v := nI (S 0)) X hO dX2_pack_9 0 (by decide) (show 0 < 237 from (by omega)) (hS1 _ (by omega)) ?_
  refine jv_bipush (v := nI 6) X dX2_pack_10 rfl ?_
  refine jn_icmp_ne 18 X dX2_pack_12 (by decide) (by omega) (by decide) (fun c12 => ?_) (fun c12 => ?_)
  · skip
    refine jv_aload_n X dX2_pack_18 0 rfl ?_
    refine jm_getA X dX2_pack_19 0 (by decide) q2010 rfl ?_
    refine jv_iconst (v := nI 0) X dX2_pack_22 rfl ?_
    refine jm_ld (v := nI (S 0)) X hO dX2_pack_23 0 (by decide) (show 0 < 237 from (by omega)) (hS1 _ (by omega)) ?_
    refine jv_istore_n (lv' := [(1, .int (nI (S 0))), (0, .ref o.2.1)]) X dX2_pack_24 rfl (by decide) rfl ?_
    refine jv_iconst (v := nI 0) X dX2_pack_25 rfl ?_
    refine jv_istore_n (lv' := [(2, .int (nI 0)), (1, .int (nI (S 0))), (0, .ref o.2.1)]) X dX2_pack_26 rfl (by decide) rfl ?_
    have lp27_2 : ∀ (d_27 : Nat) (q : Nat) (A2 : Nat → Nat → Int32), q ≤ 7 → (∀ i, i ≠ 0 → A2 i = A1 i) → (∀ j, j < 237 → A2 0 j = nI (packS S q j)) → 7 - q < d_27 → jv_J x G 3 Q_ (md_M G o F A2) 0 0 27 [(0, .ref o.2.1), (1, .int (nI (S 0))), (2, .int (nI q))] [] := by
      intro d_27
      induction d_27 with
      | zero => intro q A2 hq hB hS2 hm_27; exact absurd hm_27 (Nat.not_lt_zero _)
      | succ d_27 ih_27 =>
        intro q A2 hq hB hS2 hm_27
        refine jv_iload_n X dX2_pack_27 2 rfl ?_
        refine jv_bipush (v := nI 7) X dX2_pack_28 rfl ?_
        refine jn_icmp_ge 53 X dX2_pack_30 (by decide) (by omega) (by decide) (fun c30 => ?_) (fun c30 => ?_)
        · skip
          refine jv_aload_n X dX2_pack_53 0 rfl ?_
          refine jm_getA X dX2_pack_54 0 (by decide) q2010 rfl ?_
          refine jv_iconst (v := nI 0) X dX2_pack_57 rfl ?_
          refine jv_dup2 X dX2_pack_58 rfl rfl ?_
          refine jm_ld (v := nI (S 0)) X hO dX2_pack_59 0 (by decide) (show 0 < 237 from (by omega)) ((hS2 _ (by decide)).trans (by rw [packS_0 (by omega)])) ?_
          refine jv_iconst (v := nI 1) X dX2_pack_60 rfl ?_
          refine jv_iadd (w := nI ((S 0) + 1)) X dX2_pack_61 (nI_add _ _) ?_
          refine jm_st (v := nI ((S 0) + 1)) X hO dX2_pack_62 0 (by decide) (show 0 < 237 from (by omega)) ?_
          have hS3 := mdA_S hS2 0 ((S 0) + 1)
          refine jv_aload_n X dX2_pack_63 0 rfl ?_
          refine jv_iload_n X dX2_pack_64 1 rfl ?_
          have hAi : ∀ i, i ≠ 0 → i ≠ 2 → mdA A2 0 0 (nI ((S 0) + 1)) i = A i := fun i hi0 hi2 => by first | (simp only [mdA_i hi0]; exact ((hB i hi0).trans (h1.1 i hi2))) | exact ((hB i hi0).trans (h1.1 i hi2))
          have hAr : ∀ j, j < 237 → mdA A2 0 0 (nI ((S 0) + 1)) 2 j = nI (S j) := fun j hj => by first | (simp only [mdA_i (show (2 : Nat) ≠ 0 by decide)]; exact ((congrFun (hB 2 (by decide)) j).trans (h1.2 j hj))) | exact ((congrFun (hB 2 (by decide)) j).trans (h1.2 j hj))
          refine jv_calli (jv_runV (As := [.int (nI (S 0))]) (rest := []) X dX2_pack_65 (c_X2_changed hO (nI (S 0)) (zk z) hk8 hz.kp (zH z) (fun i hi j hj => by rw [hAi 3 (by decide) (by decide)]; exact hz.hi i hi j hj) S hAr) (lw_V q2100 q2102 qs40 q100 q2103) hd_X2_changed md_M_o rfl (Nat.le_of_ble_eq_true rfl) (Nat.le_of_ble_eq_true rfl) (Nat.le_of_ble_eq_true rfl) (Nat.le_of_ble_eq_true rfl) rfl (Nat.le_of_ble_eq_true rfl)) (fun r4 M_ h_ => ?_)
          obtain ⟨F4, A4, rfl, h4⟩ := h_
          exact jv_iret (v := r4) X dX2_pack_68 rfl hQ (Nat.le_of_ble_eq_true rfl) (Nat.le_of_ble_eq_true rfl) ⟨_, _, rfl, (by rw [m_pack, if_neg c12]; exact ⟨h4.1, isZ.put hz hAi (fun j hj => by rw [hS3 j hj, show q = 7 by omega]) h4.2⟩)⟩
        · skip
          refine jv_aload_n X dX2_pack_33 0 rfl ?_
          refine jm_getA X dX2_pack_34 0 (by decide) q2010 rfl ?_
          refine jv_iconst (v := nI 3) X dX2_pack_37 rfl ?_
          refine jv_bipush (v := nI 7) X dX2_pack_38 rfl ?_
          refine jv_iload_n X dX2_pack_40 1 rfl ?_
          refine jv_imul (w := nI (7 * (S 0))) X dX2_pack_41 (pk_mul _ _) ?_
          refine jv_iadd (w := nI (3 + (7 * (S 0)))) X dX2_pack_42 (nI_add _ _) ?_
          refine jv_iload_n X dX2_pack_43 2 rfl ?_
          refine jv_iadd (w := nI ((3 + (7 * (S 0))) + q)) X dX2_pack_44 (nI_add _ _) ?_
          refine jv_iconst (v := nI 0) X dX2_pack_45 rfl ?_
          refine jm_st (v := nI 0) X hO dX2_pack_46 0 (by decide) (show ((3 + (7 * (S 0))) + q) < 237 from (by omega)) ?_
          have hS5 := mdA_S hS2 ((3 + (7 * (S 0))) + q) 0
          refine jv_iinc (v := nI (q + 1)) (lv' := [(2, .int (nI (q + 1))), (0, .ref o.2.1), (1, .int (nI (S 0)))]) X dX2_pack_47 2 rfl (nI_1 _) (by decide) rfl ?_
          refine jv_goto 27 X dX2_pack_50 (by decide) ?_
          refine jv_lv (lv' := [(0, .ref o.2.1), (1, .int (nI (S 0))), (2, .int (nI (q + 1)))]) [1, 2, 0] rfl ?_
          exact ih_27 (q + 1) (mdA A2 0 ((3 + (7 * (S 0))) + q) (nI 0)) (by omega) (fun i hi => by rw [mdA_i hi]; exact hB i hi) hS5 (by omega)
    refine jv_lv (lv' := [(0, .ref o.2.1), (1, .int (nI (S 0))), (2, .int (nI 0))]) [2, 1, 0] rfl ?_
    exact lp27_2 (7 + 1) 0 A1 (Nat.zero_le _) (fun _ _ => rfl) hS1 (by omega)
  · skip
    refine jv_bipush (v := (-4)) X dX2_pack_15 rfl ?_
    exact jv_iret (v := (-4)) X dX2_pack_17 rfl hQ (Nat.le_of_ble_eq_true rfl) (Nat.le_of_ble_eq_true rfl) ⟨_, _, rfl, (by rw [m_pack, if_pos c12]; exact ⟨rfl, hz.scr (fun _ _ => rfl) (fun k e => h1.1 k (by omega))⟩)⟩
theorem hd_X2_version : jv_dd yX2_version 4 := by unfold jv_dd; decide +kernel
set_option maxHeartbeats 4000000 in
theorem c_X2_version {l : Launch} {G : jv_G} {o : md_O} {F : Nat → Int32} {A : Nat → Nat → Int32} {S : Nat → Nat} (hO : md_K G o) (hS : ∀ j, j < 237 → A 0 j = nI (S j)) {z : t_Z} (hz : isZ F A z) (hk8 : zk z ≤ 8) (hW : wfB S) (p : Int32) (ma : Int32) (mi : Int32) (pr : Int32)  : jv_Ct G l yX2_version cX2_version 8 (some .int) 2 0 0 43 [.ref o.2.1, .int p, .int ma, .int mi, .int pr] (md_M G o F A) (jv_qi G (fun r M' => ∃ F' A', M' = md_M G o F' A' ∧ r = (m_version z S p ma mi pr).1 ∧ isZ F' A' (m_version z S p ma mi pr).2)) := by
  refine jv_Ct.of (lv := [(0, .ref o.2.1), (1, .int p), (2, .int ma), (3, .int mi), (4, .int pr)]) (by decide) (Nat.le_of_ble_eq_true rfl) rfl ?_
  intro x Q_ hl_ hQ X
  subst hl_
  have hS0 := hW.p
  refine jv_aload_n X dX2_version_0 0 rfl ?_
  refine jv_callv (jv_runV (As := []) (rest := []) X dX2_version_1 (c_X2_remembers hO hS) (lw_V q2096 q2098 qs39 q100 q2099) hd_X2_remembers md_M_o rfl (Nat.le_of_ble_eq_true rfl) (Nat.le_of_ble_eq_true rfl) (Nat.le_of_ble_eq_true rfl) (Nat.le_of_ble_eq_true rfl) rfl (Nat.le_of_ble_eq_true rfl)) (fun M_ h_ => ?_)
  obtain ⟨A1, rfl, h1⟩ := h_
  have hS1 : ∀ j, j < 237 → A1 0 j = nI (S j) := fun j hj => by rw [h1.1 0 (by decide)]; exact hS j hj
  refine jv_aload_n X dX2_version_4 0 rfl ?_
  refine jv_iload_n X dX2_version_5 1 rfl ?_
  refine jv_ask (jv_runV (As := [.int p]) (rest := []) X dX2_version_6 (c_X2_isPack hO hS1 p) (lw_V q2108 q2110 qs41 q100 q2111) hd_X2_isPack md_M_o rfl (Nat.le_of_ble_eq_true rfl) (Nat.le_of_ble_eq_true rfl) (Nat.le_of_ble_eq_true rfl) (Nat.le_of_ble_eq_true rfl) rfl (Nat.le_of_ble_eq_true rfl)) ?_
  refine jb_if_ne 14 X dX2_version_9 (by decide) (fun c9 => ?_) (fun c9 => ?_)
  · skip
    refine jv_iload_n X dX2_version_14 2 rfl ?_
    refine jv_iconst (v := nI 0) X dX2_version_15 rfl ?_
    refine jv_bipush (v := nI 9) X dX2_version_16 rfl ?_
    refine jv_ask (jv_runS (As := [.int ma, .int (nI 0), .int (nI 9)]) (rest := []) X dX2_version_18 (c_X2_in ma (nI 0) (nI 9)) (lw_S q2112 q2113 q100 q2114) hd_X2_in (Nat.le_of_ble_eq_true rfl) (Nat.le_of_ble_eq_true rfl) (Nat.le_of_ble_eq_true rfl) (Nat.le_of_ble_eq_true rfl) rfl (Nat.le_of_ble_eq_true rfl)) ?_
    refine jb_if_eq 45 X dX2_version_21 (by decide) (fun c21 => ?_) (fun c21 => ?_)
    · skip
      refine jv_bipush (v := (-2)) X dX2_version_45 rfl ?_
      exact jv_iret (v := (-2)) X dX2_version_47 rfl hQ (Nat.le_of_ble_eq_true rfl) (Nat.le_of_ble_eq_true rfl) ⟨_, _, rfl, (by rw [m_version, if_pos c9, if_neg (Bool.eq_false_iff.mp c21)]; exact ⟨rfl, hz.scr (fun _ _ => rfl) (fun k e => h1.1 k (by omega))⟩)⟩
    · skip
      refine jv_iload_n X dX2_version_24 3 rfl ?_
      refine jv_iconst (v := nI 0) X dX2_version_25 rfl ?_
      refine jv_bipush (v := nI 9) X dX2_version_26 rfl ?_
      refine jv_ask (jv_runS (As := [.int mi, .int (nI 0), .int (nI 9)]) (rest := []) X dX2_version_28 (c_X2_in mi (nI 0) (nI 9)) (lw_S q2112 q2113 q100 q2114) hd_X2_in (Nat.le_of_ble_eq_true rfl) (Nat.le_of_ble_eq_true rfl) (Nat.le_of_ble_eq_true rfl) (Nat.le_of_ble_eq_true rfl) rfl (Nat.le_of_ble_eq_true rfl)) ?_
      refine jb_if_eq 45 X dX2_version_31 (by decide) (fun c31 => ?_) (fun c31 => ?_)
      · skip
        refine jv_bipush (v := (-2)) X dX2_version_45 rfl ?_
        exact jv_iret (v := (-2)) X dX2_version_47 rfl hQ (Nat.le_of_ble_eq_true rfl) (Nat.le_of_ble_eq_true rfl) ⟨_, _, rfl, (by rw [m_version, if_pos c9, if_pos c21, if_neg (Bool.eq_false_iff.mp c31)]; exact ⟨rfl, hz.scr (fun _ _ => rfl) (fun k e => h1.1 k (by omega))⟩)⟩
      · skip
        refine jv_iload X dX2_version_34 4 rfl ?_
        refine jv_iconst (v := nI 0) X dX2_version_36 rfl ?_
        refine jv_bipush (v := nI 9) X dX2_version_37 rfl ?_
        refine jv_ask (jv_runS (As := [.int pr, .int (nI 0), .int (nI 9)]) (rest := []) X dX2_version_39 (c_X2_in pr (nI 0) (nI 9)) (lw_S q2112 q2113 q100 q2114) hd_X2_in (Nat.le_of_ble_eq_true rfl) (Nat.le_of_ble_eq_true rfl) (Nat.le_of_ble_eq_true rfl) (Nat.le_of_ble_eq_true rfl) rfl (Nat.le_of_ble_eq_true rfl)) ?_
        refine jb_if_ne 48 X dX2_version_42 (by decide) (fun c42 => ?_) (fun c42 => ?_)
        · skip
          have hq_ma : nI (ma.toNatClampNeg) = ma := (v_in_9 c21).2
          refine jv_to (lv' := [(0, .ref o.2.1), (1, .int p), (2, .int (nI ma.toNatClampNeg)), (3, .int mi), (4, .int pr)]) (st' := []) (by rw [hq_ma]) rfl ?_
          have hq_mi : nI (mi.toNatClampNeg) = mi := (v_in_9 c31).2
          refine jv_to (lv' := [(0, .ref o.2.1), (1, .int p), (2, .int (nI ma.toNatClampNeg)), (3, .int (nI mi.toNatClampNeg)), (4, .int pr)]) (st' := []) (by rw [hq_mi]) rfl ?_
          have hq_pr : nI (pr.toNatClampNeg) = pr := (v_in_9 c42).2
          refine jv_to (lv' := [(0, .ref o.2.1), (1, .int p), (2, .int (nI ma.toNatClampNeg)), (3, .int (nI mi.toNatClampNeg)), (4, .int (nI pr.toNatClampNeg))]) (st' := []) (by rw [hq_pr]) rfl ?_
          have d1 := (v_in_9 c21).1
          have d2 := (v_in_9 c31).1
          have d3 := (v_in_9 c42).1
          have hp6 := Nat.lt_of_lt_of_le (v_isPack_n hW c9).1 hW.p
          have hnv := hW.nv hp6
          refine jv_bipush (v := nI 100) X dX2_version_48 rfl ?_
          refine jv_iload_n X dX2_version_50 2 rfl ?_
          refine jv_imul (w := nI (100 * ma.toNatClampNeg)) X dX2_version_51 (pk_mul _ _) ?_
          refine jv_bipush (v := nI 10) X dX2_version_52 rfl ?_
          refine jv_iload_n X dX2_version_54 3 rfl ?_
          refine jv_imul (w := nI (10 * mi.toNatClampNeg)) X dX2_version_55 (pk_mul _ _) ?_
          refine jv_iadd (w := nI ((100 * ma.toNatClampNeg) + (10 * mi.toNatClampNeg))) X dX2_version_56 (nI_add _ _) ?_
          refine jv_iload X dX2_version_57 4 rfl ?_
          refine jv_iadd (w := nI (((100 * ma.toNatClampNeg) + (10 * mi.toNatClampNeg)) + pr.toNatClampNeg)) X dX2_version_59 (nI_add _ _) ?_
          refine jv_istore (lv' := [(5, .int (nI (((100 * ma.toNatClampNeg) + (10 * mi.toNatClampNeg)) + pr.toNatClampNeg))), (0, .ref o.2.1), (1, .int p), (2, .int (nI ma.toNatClampNeg)), (3, .int (nI mi.toNatClampNeg)), (4, .int (nI pr.toNatClampNeg))]) X dX2_version_60 (by decide) rfl ?_
          have hq_p : nI (p.toNatClampNeg) = p := (v_isPack_n hW c9).2
          refine jv_to (lv' := [(5, .int (nI (((100 * ma.toNatClampNeg) + (10 * mi.toNatClampNeg)) + pr.toNatClampNeg))), (0, .ref o.2.1), (1, .int (nI p.toNatClampNeg)), (2, .int (nI ma.toNatClampNeg)), (3, .int (nI mi.toNatClampNeg)), (4, .int (nI pr.toNatClampNeg))]) (st' := []) (by rw [hq_p]) rfl ?_
          refine jv_aload_n X dX2_version_62 1 rfl ?_
          refine jv_iload_n X dX2_version_63 2 rfl ?_
          refine jv_iconst (v := nI 0) X dX2_version_64 rfl ?_
          refine jv_ask (jv_runV (As := [.int (nI p.toNatClampNeg), .int (nI 0)]) (rest := []) X dX2_version_65 (c_X2_of hO hS1 p.toNatClampNeg 0 (by omega) (by omega)) (lw_V q2115 q2117 qs42 q100 q2118) hd_X2_of md_M_o rfl (Nat.le_of_ble_eq_true rfl) (Nat.le_of_ble_eq_true rfl) (Nat.le_of_ble_eq_true rfl) (Nat.le_of_ble_eq_true rfl) rfl (Nat.le_of_ble_eq_true rfl)) ?_
          refine jv_istore (lv' := [(6, .int (nI (v_of S p.toNatClampNeg 0))), (5, .int (nI (((100 * ma.toNatClampNeg) + (10 * mi.toNatClampNeg)) + pr.toNatClampNeg))), (0, .ref o.2.1), (1, .int (nI p.toNatClampNeg)), (2, .int (nI ma.toNatClampNeg)), (3, .int (nI mi.toNatClampNeg)), (4, .int (nI pr.toNatClampNeg))]) X dX2_version_68 (by decide) rfl ?_
          refine jv_iconst (v := nI 0) X dX2_version_70 rfl ?_
          refine jv_istore (lv' := [(7, .int (nI 0)), (6, .int (nI (v_of S p.toNatClampNeg 0))), (5, .int (nI (((100 * ma.toNatClampNeg) + (10 * mi.toNatClampNeg)) + pr.toNatClampNeg))), (0, .ref o.2.1), (1, .int (nI p.toNatClampNeg)), (2, .int (nI ma.toNatClampNeg)), (3, .int (nI mi.toNatClampNeg)), (4, .int (nI pr.toNatClampNeg))]) X dX2_version_71 (by decide) rfl ?_
          have lp73_2 : ∀ (d_73 : Nat) (v : Nat), v ≤ v_of S p.toNatClampNeg 0 → dupN S p.toNatClampNeg (cod3 ma mi pr) v = false → v_of S p.toNatClampNeg 0 - v < d_73 → jv_J x G 8 Q_ (md_M G o F A1) 0 0 73 [(0, .ref o.2.1), (1, .int (nI p.toNatClampNeg)), (2, .int (nI ma.toNatClampNeg)), (3, .int (nI mi.toNatClampNeg)), (4, .int (nI pr.toNatClampNeg)), (5, .int (nI (((100 * ma.toNatClampNeg) + (10 * mi.toNatClampNeg)) + pr.toNatClampNeg))), (6, .int (nI (v_of S p.toNatClampNeg 0))), (7, .int (nI v))] [] := by
            intro d_73
            induction d_73 with
            | zero => intro v hv hd hm_73; exact absurd hm_73 (Nat.not_lt_zero _)
            | succ d_73 ih_73 =>
              intro v hv hd hm_73
              refine jv_iload X dX2_version_73 7 rfl ?_
              refine jv_iload X dX2_version_75 6 rfl ?_
              refine jn_icmp_ge 103 X dX2_version_77 (by decide) (by omega) (by omega) (fun c77 => ?_) (fun c77 => ?_)
              · skip
                refine jv_iload X dX2_version_103 6 rfl ?_
                refine jv_iconst (v := nI 5) X dX2_version_105 rfl ?_
                refine jn_icmp_ne 112 X dX2_version_106 (by decide) (by omega) (by decide) (fun c106 => ?_) (fun c106 => ?_)
                · skip
                  refine jv_aload_n X dX2_version_112 0 rfl ?_
                  refine jm_getA X dX2_version_113 0 (by decide) q2010 rfl ?_
                  refine jv_iconst (v := nI 3) X dX2_version_116 rfl ?_
                  refine jv_bipush (v := nI 7) X dX2_version_117 rfl ?_
                  refine jv_iload_n X dX2_version_119 1 rfl ?_
                  refine jv_imul (w := nI (7 * p.toNatClampNeg)) X dX2_version_120 (pk_mul _ _) ?_
                  refine jv_iadd (w := nI (3 + (7 * p.toNatClampNeg))) X dX2_version_121 (nI_add _ _) ?_
                  refine jv_iconst (v := nI 2) X dX2_version_122 rfl ?_
                  refine jv_iadd (w := nI ((3 + (7 * p.toNatClampNeg)) + 2)) X dX2_version_123 (nI_add _ _) ?_
                  refine jv_iload X dX2_version_124 6 rfl ?_
                  refine jv_iadd (w := nI (((3 + (7 * p.toNatClampNeg)) + 2) + (v_of S p.toNatClampNeg 0))) X dX2_version_126 (nI_add _ _) ?_
                  refine jv_iload X dX2_version_127 5 rfl ?_
                  refine jm_st (v := nI (((100 * ma.toNatClampNeg) + (10 * mi.toNatClampNeg)) + pr.toNatClampNeg)) X hO dX2_version_129 0 (by decide) (show (((3 + (7 * p.toNatClampNeg)) + 2) + (v_of S p.toNatClampNeg 0)) < 237 from (by omega)) ?_
                  have hS3 := mdA_S hS1 (((3 + (7 * p.toNatClampNeg)) + 2) + (v_of S p.toNatClampNeg 0)) (((100 * ma.toNatClampNeg) + (10 * mi.toNatClampNeg)) + pr.toNatClampNeg)
                  refine jv_aload_n X dX2_version_130 0 rfl ?_
                  refine jm_getA X dX2_version_131 0 (by decide) q2010 rfl ?_
                  refine jv_iconst (v := nI 3) X dX2_version_134 rfl ?_
                  refine jv_bipush (v := nI 7) X dX2_version_135 rfl ?_
                  refine jv_iload_n X dX2_version_137 1 rfl ?_
                  refine jv_imul (w := nI (7 * p.toNatClampNeg)) X dX2_version_138 (pk_mul _ _) ?_
                  refine jv_iadd (w := nI (3 + (7 * p.toNatClampNeg))) X dX2_version_139 (nI_add _ _) ?_
                  refine jv_iconst (v := nI 0) X dX2_version_140 rfl ?_
                  refine jv_iadd (w := nI ((3 + (7 * p.toNatClampNeg)) + 0)) X dX2_version_141 (nI_add _ _) ?_
                  refine jv_dup2 X dX2_version_142 rfl rfl ?_
                  refine jm_ld (v := nI (v_of S p.toNatClampNeg 0)) X hO dX2_version_143 0 (by decide) (show ((3 + (7 * p.toNatClampNeg)) + 0) < 237 from (by omega)) ((hS3 _ (by omega)).trans (by simp only [up2]; rw [if_neg (by omega)]; rfl)) ?_
                  refine jv_iconst (v := nI 1) X dX2_version_144 rfl ?_
                  refine jv_iadd (w := nI ((v_of S p.toNatClampNeg 0) + 1)) X dX2_version_145 (nI_add _ _) ?_
                  refine jm_st (v := nI ((v_of S p.toNatClampNeg 0) + 1)) X hO dX2_version_146 0 (by decide) (show ((3 + (7 * p.toNatClampNeg)) + 0) < 237 from (by omega)) ?_
                  have hS4 := mdA_S hS3 ((3 + (7 * p.toNatClampNeg)) + 0) ((v_of S p.toNatClampNeg 0) + 1)
                  have hAi : ∀ i, i ≠ 0 → i ≠ 2 → mdA (mdA A1 0 (((3 + (7 * p.toNatClampNeg)) + 2) + (v_of S p.toNatClampNeg 0)) (nI (((100 * ma.toNatClampNeg) + (10 * mi.toNatClampNeg)) + pr.toNatClampNeg))) 0 ((3 + (7 * p.toNatClampNeg)) + 0) (nI ((v_of S p.toNatClampNeg 0) + 1)) i = A i := fun i hi0 hi2 => by first | (simp only [mdA_i hi0]; exact h1.1 i hi2) | exact h1.1 i hi2
                  have hAr : ∀ j, j < 237 → mdA (mdA A1 0 (((3 + (7 * p.toNatClampNeg)) + 2) + (v_of S p.toNatClampNeg 0)) (nI (((100 * ma.toNatClampNeg) + (10 * mi.toNatClampNeg)) + pr.toNatClampNeg))) 0 ((3 + (7 * p.toNatClampNeg)) + 0) (nI ((v_of S p.toNatClampNeg 0) + 1)) 2 j = nI (S j) := fun j hj => by first | (simp only [mdA_i (show (2 : Nat) ≠ 0 by decide)]; exact h1.2 j hj) | exact h1.2 j hj
                  refine jv_aload_n X dX2_version_147 0 rfl ?_
                  refine jv_iload X dX2_version_148 6 rfl ?_
                  refine jv_calli (jv_runV (As := [.int (nI (v_of S p.toNatClampNeg 0))]) (rest := []) X dX2_version_150 (c_X2_changed hO (nI (v_of S p.toNatClampNeg 0)) (zk z) hk8 hz.kp (zH z) (fun i hi j hj => by rw [hAi 3 (by decide) (by decide)]; exact hz.hi i hi j hj) S hAr) (lw_V q2100 q2102 qs40 q100 q2103) hd_X2_changed md_M_o rfl (Nat.le_of_ble_eq_true rfl) (Nat.le_of_ble_eq_true rfl) (Nat.le_of_ble_eq_true rfl) (Nat.le_of_ble_eq_true rfl) rfl (Nat.le_of_ble_eq_true rfl)) (fun r5 M_ h_ => ?_)
                  obtain ⟨F5, A5, rfl, h5⟩ := h_
                  exact jv_iret (v := r5) X dX2_version_153 rfl hQ (Nat.le_of_ble_eq_true rfl) (Nat.le_of_ble_eq_true rfl) ⟨_, _, rfl, (by rw [m_version, if_pos c9, if_pos c21, if_pos c31, if_pos c42, if_neg (by rw [show v_of S p.toNatClampNeg 0 = v by omega]; exact Bool.eq_false_iff.mp hd), if_neg c106]; exact ⟨h5.1, isZ.put hz hAi hS4 h5.2⟩)⟩
                · skip
                  refine jv_bipush (v := (-4)) X dX2_version_109 rfl ?_
                  exact jv_iret (v := (-4)) X dX2_version_111 rfl hQ (Nat.le_of_ble_eq_true rfl) (Nat.le_of_ble_eq_true rfl) ⟨_, _, rfl, (by rw [m_version, if_pos c9, if_pos c21, if_pos c31, if_pos c42, if_neg (by rw [show v_of S p.toNatClampNeg 0 = v by omega]; exact Bool.eq_false_iff.mp hd), if_pos c106]; exact ⟨rfl, hz.scr (fun _ _ => rfl) (fun k e => h1.1 k (by omega))⟩)⟩
              · skip
                have hvr := hW.vr hp6 (v := v) (by omega)
                refine jv_aload_n X dX2_version_80 0 rfl ?_
                refine jv_iload_n X dX2_version_81 1 rfl ?_
                refine jv_iconst (v := nI 2) X dX2_version_82 rfl ?_
                refine jv_iload X dX2_version_83 7 rfl ?_
                refine jv_iadd (w := nI (2 + v)) X dX2_version_85 (nI_add _ _) ?_
                refine jv_ask (jv_runV (As := [.int (nI p.toNatClampNeg), .int (nI (2 + v))]) (rest := []) X dX2_version_86 (c_X2_of hO hS1 p.toNatClampNeg (2 + v) (by omega) (by omega)) (lw_V q2115 q2117 qs42 q100 q2118) hd_X2_of md_M_o rfl (Nat.le_of_ble_eq_true rfl) (Nat.le_of_ble_eq_true rfl) (Nat.le_of_ble_eq_true rfl) (Nat.le_of_ble_eq_true rfl) rfl (Nat.le_of_ble_eq_true rfl)) ?_
                refine jv_iload X dX2_version_89 5 rfl ?_
                refine jn_icmp_ne 97 X dX2_version_91 (by decide) (by omega) (by omega) (fun c91 => ?_) (fun c91 => ?_)
                · skip
                  refine jv_iinc (v := nI (v + 1)) (lv' := [(7, .int (nI (v + 1))), (0, .ref o.2.1), (1, .int (nI p.toNatClampNeg)), (2, .int (nI ma.toNatClampNeg)), (3, .int (nI mi.toNatClampNeg)), (4, .int (nI pr.toNatClampNeg)), (5, .int (nI (((100 * ma.toNatClampNeg) + (10 * mi.toNatClampNeg)) + pr.toNatClampNeg))), (6, .int (nI (v_of S p.toNatClampNeg 0)))]) X dX2_version_97 7 rfl (nI_1 _) (by decide) rfl ?_
                  refine jv_goto 73 X dX2_version_100 (by decide) ?_
                  refine jv_lv (lv' := [(0, .ref o.2.1), (1, .int (nI p.toNatClampNeg)), (2, .int (nI ma.toNatClampNeg)), (3, .int (nI mi.toNatClampNeg)), (4, .int (nI pr.toNatClampNeg)), (5, .int (nI (((100 * ma.toNatClampNeg) + (10 * mi.toNatClampNeg)) + pr.toNatClampNeg))), (6, .int (nI (v_of S p.toNatClampNeg 0))), (7, .int (nI (v + 1)))]) [1, 2, 3, 4, 5, 6, 7, 0] rfl ?_
                  exact ih_73 (v + 1) (by omega) (by rw [dupN, hd, Bool.false_or]; exact decide_eq_false c91) (by omega)
                · skip
                  refine jv_bipush (v := (-3)) X dX2_version_94 rfl ?_
                  exact jv_iret (v := (-3)) X dX2_version_96 rfl hQ (Nat.le_of_ble_eq_true rfl) (Nat.le_of_ble_eq_true rfl) ⟨_, _, rfl, (by rw [m_version, if_pos c9, if_pos c21, if_pos c31, if_pos c42, if_pos (dupN_t (c := cod3 ma mi pr) c77 c91)]; exact ⟨rfl, hz.scr (fun _ _ => rfl) (fun k e => h1.1 k (by omega))⟩)⟩
          refine jv_lv (lv' := [(0, .ref o.2.1), (1, .int (nI p.toNatClampNeg)), (2, .int (nI ma.toNatClampNeg)), (3, .int (nI mi.toNatClampNeg)), (4, .int (nI pr.toNatClampNeg)), (5, .int (nI (((100 * ma.toNatClampNeg) + (10 * mi.toNatClampNeg)) + pr.toNatClampNeg))), (6, .int (nI (v_of S p.toNatClampNeg 0))), (7, .int (nI 0))]) [3, 4, 5, 6, 7, 2, 1, 0] rfl ?_
          exact lp73_2 (v_of S p.toNatClampNeg 0 + 1) 0 (Nat.zero_le _) rfl (by omega)
        · skip
          refine jv_bipush (v := (-2)) X dX2_version_45 rfl ?_
          exact jv_iret (v := (-2)) X dX2_version_47 rfl hQ (Nat.le_of_ble_eq_true rfl) (Nat.le_of_ble_eq_true rfl) ⟨_, _, rfl, (by rw [m_version, if_pos c9, if_pos c21, if_pos c31, if_neg (Bool.eq_false_iff.mp c42)]; exact ⟨rfl, hz.scr (fun _ _ => rfl) (fun k e => h1.1 k (by omega))⟩)⟩
  · skip
    refine jv_iconst (v := (-1)) X dX2_version_12 rfl ?_
    exact jv_iret (v := (-1)) X dX2_version_13 rfl hQ (Nat.le_of_ble_eq_true rfl) (Nat.le_of_ble_eq_true rfl) ⟨_, _, rfl, (by rw [m_version, if_neg (Bool.eq_false_iff.mp c9)]; exact ⟨rfl, hz.scr (fun _ _ => rfl) (fun k e => h1.1 k (by omega))⟩)⟩
theorem hd_X2_open : jv_dd yX2_open 2 := by unfold jv_dd; decide +kernel
set_option maxHeartbeats 4000000 in
theorem c_X2_open {l : Launch} {G : jv_G} {o : md_O} {F : Nat → Int32} {A : Nat → Nat → Int32} {S : Nat → Nat} (hO : md_K G o) (hS : ∀ j, j < 237 → A 0 j = nI (S j)) {z : t_Z} (hz : isZ F A z) (hk8 : zk z ≤ 8) (hW : wfB S) (p : Int32) (b : Bool)  : jv_Ct G l yX2_open cX2_open 4 (some .int) 2 0 0 43 [.ref o.2.1, .int p, .int (bI b)] (md_M G o F A) (jv_qi G (fun r M' => ∃ F' A', M' = md_M G o F' A' ∧ r = (m_open z S p b).1 ∧ isZ F' A' (m_open z S p b).2)) := by
  refine jv_Ct.of (lv := [(0, .ref o.2.1), (1, .int p), (2, .int (bI b))]) (by decide) (Nat.le_of_ble_eq_true rfl) rfl ?_
  intro x Q_ hl_ hQ X
  subst hl_
  have hS0 := hW.p
  refine jv_aload_n X dX2_open_0 0 rfl ?_
  refine jv_callv (jv_runV (As := []) (rest := []) X dX2_open_1 (c_X2_remembers hO hS) (lw_V q2096 q2098 qs39 q100 q2099) hd_X2_remembers md_M_o rfl (Nat.le_of_ble_eq_true rfl) (Nat.le_of_ble_eq_true rfl) (Nat.le_of_ble_eq_true rfl) (Nat.le_of_ble_eq_true rfl) rfl (Nat.le_of_ble_eq_true rfl)) (fun M_ h_ => ?_)
  obtain ⟨A1, rfl, h1⟩ := h_
  have hS1 : ∀ j, j < 237 → A1 0 j = nI (S j) := fun j hj => by rw [h1.1 0 (by decide)]; exact hS j hj
  refine jv_aload_n X dX2_open_4 0 rfl ?_
  refine jv_iload_n X dX2_open_5 1 rfl ?_
  refine jv_ask (jv_runV (As := [.int p]) (rest := []) X dX2_open_6 (c_X2_isPack hO hS1 p) (lw_V q2108 q2110 qs41 q100 q2111) hd_X2_isPack md_M_o rfl (Nat.le_of_ble_eq_true rfl) (Nat.le_of_ble_eq_true rfl) (Nat.le_of_ble_eq_true rfl) (Nat.le_of_ble_eq_true rfl) rfl (Nat.le_of_ble_eq_true rfl)) ?_
  refine jb_if_ne 14 X dX2_open_9 (by decide) (fun c9 => ?_) (fun c9 => ?_)
  · skip
    have hq_p : nI (p.toNatClampNeg) = p := (v_isPack_n hW c9).2
    refine jv_to (lv' := [(0, .ref o.2.1), (1, .int (nI p.toNatClampNeg)), (2, .int (bI b))]) (st' := []) (by rw [hq_p]) rfl ?_
    have hp6 := Nat.lt_of_lt_of_le (v_isPack_n hW c9).1 hW.p
    refine jv_aload_n X dX2_open_14 0 rfl ?_
    refine jv_iload_n X dX2_open_15 1 rfl ?_
    refine jv_iconst (v := nI 1) X dX2_open_16 rfl ?_
    refine jv_ask (jv_runV (As := [.int (nI p.toNatClampNeg), .int (nI 1)]) (rest := []) X dX2_open_17 (c_X2_of hO hS1 p.toNatClampNeg 1 (by omega) (by omega)) (lw_V q2115 q2117 qs42 q100 q2118) hd_X2_of md_M_o rfl (Nat.le_of_ble_eq_true rfl) (Nat.le_of_ble_eq_true rfl) (Nat.le_of_ble_eq_true rfl) (Nat.le_of_ble_eq_true rfl) rfl (Nat.le_of_ble_eq_true rfl)) ?_
    refine jv_istore_n (lv' := [(3, .int (nI (v_of S p.toNatClampNeg 1))), (0, .ref o.2.1), (1, .int (nI p.toNatClampNeg)), (2, .int (bI b))]) X dX2_open_20 rfl (by decide) rfl ?_
    refine jv_aload_n X dX2_open_21 1 rfl ?_
    refine jm_getA X dX2_open_22 0 (by decide) q2010 rfl ?_
    refine jv_iconst (v := nI 3) X dX2_open_25 rfl ?_
    refine jv_bipush (v := nI 7) X dX2_open_26 rfl ?_
    refine jv_iload_n X dX2_open_28 2 rfl ?_
    refine jv_imul (w := nI (7 * p.toNatClampNeg)) X dX2_open_29 (pk_mul _ _) ?_
    refine jv_iadd (w := nI (3 + (7 * p.toNatClampNeg))) X dX2_open_30 (nI_add _ _) ?_
    refine jv_iconst (v := nI 1) X dX2_open_31 rfl ?_
    refine jv_iadd (w := nI ((3 + (7 * p.toNatClampNeg)) + 1)) X dX2_open_32 (nI_add _ _) ?_
    refine jv_iload_n X dX2_open_33 3 rfl ?_
    have j42_2 : ∀ w_3 : Nat, w_3 = (if b = true then 1 else 0) → jv_J x G 4 Q_ (md_M G o F A1) 0 0 42 [(3, .int (nI (v_of S p.toNatClampNeg 1))), (0, .ref o.2.1), (1, .int (nI p.toNatClampNeg)), (2, .int (bI b))] [.int (nI w_3), .int (nI ((3 + (7 * p.toNatClampNeg)) + 1)), .ref (o.2.2 0)] := by
      intro w_3 e_w_3
      subst e_w_3
      refine jm_st (v := nI (if b = true then 1 else 0)) X hO dX2_open_42 0 (by decide) (show ((3 + (7 * p.toNatClampNeg)) + 1) < 237 from (by omega)) ?_
      have hS4 := mdA_S hS1 ((3 + (7 * p.toNatClampNeg)) + 1) (if b = true then 1 else 0)
      have hAi : ∀ i, i ≠ 0 → i ≠ 2 → mdA A1 0 ((3 + (7 * p.toNatClampNeg)) + 1) (nI (if b = true then 1 else 0)) i = A i := fun i hi0 hi2 => by first | (simp only [mdA_i hi0]; exact h1.1 i hi2) | exact h1.1 i hi2
      have hAr : ∀ j, j < 237 → mdA A1 0 ((3 + (7 * p.toNatClampNeg)) + 1) (nI (if b = true then 1 else 0)) 2 j = nI (S j) := fun j hj => by first | (simp only [mdA_i (show (2 : Nat) ≠ 0 by decide)]; exact h1.2 j hj) | exact h1.2 j hj
      refine jv_aload_n X dX2_open_43 1 rfl ?_
      refine jv_iload_n X dX2_open_44 0 rfl ?_
      refine jv_calli (jv_runV (As := [.int (nI (v_of S p.toNatClampNeg 1))]) (rest := []) X dX2_open_45 (c_X2_changed hO (nI (v_of S p.toNatClampNeg 1)) (zk z) hk8 hz.kp (zH z) (fun i hi j hj => by rw [hAi 3 (by decide) (by decide)]; exact hz.hi i hi j hj) S hAr) (lw_V q2100 q2102 qs40 q100 q2103) hd_X2_changed md_M_o rfl (Nat.le_of_ble_eq_true rfl) (Nat.le_of_ble_eq_true rfl) (Nat.le_of_ble_eq_true rfl) (Nat.le_of_ble_eq_true rfl) rfl (Nat.le_of_ble_eq_true rfl)) (fun r5 M_ h_ => ?_)
      obtain ⟨F5, A5, rfl, h5⟩ := h_
      exact jv_iret (v := r5) X dX2_open_48 rfl hQ (Nat.le_of_ble_eq_true rfl) (Nat.le_of_ble_eq_true rfl) ⟨_, _, rfl, (by rw [m_open, if_pos c9]; exact ⟨h5.1, isZ.put hz hAi hS4 h5.2⟩)⟩
    refine jb_if_eq 41 X dX2_open_34 (by decide) (fun c34 => ?_) (fun c34 => ?_)
    · skip
      refine jv_iconst (v := nI 0) X dX2_open_41 rfl ?_
      exact j42_2 _ (if_neg (Bool.eq_false_iff.mp c34)).symm
    · skip
      refine jv_iconst (v := nI 1) X dX2_open_37 rfl ?_
      refine jv_goto 42 X dX2_open_38 (by decide) ?_
      exact j42_2 _ (if_pos c34).symm
  · skip
    refine jv_iconst (v := (-1)) X dX2_open_12 rfl ?_
    exact jv_iret (v := (-1)) X dX2_open_13 rfl hQ (Nat.le_of_ble_eq_true rfl) (Nat.le_of_ble_eq_true rfl) ⟨_, _, rfl, (by rw [m_open, if_neg (Bool.eq_false_iff.mp c9)]; exact ⟨rfl, hz.scr (fun _ _ => rfl) (fun k e => h1.1 k (by omega))⟩)⟩
theorem hd_X2_adds : jv_dd yX2_adds 6 := by unfold jv_dd; decide +kernel
set_option maxHeartbeats 4000000 in
theorem c_X2_adds {l : Launch} {G : jv_G} {o : md_O} {F : Nat → Int32} {A : Nat → Nat → Int32} {S : Nat → Nat} (hO : md_K G o) (hS : ∀ j, j < 237 → A 0 j = nI (S j)) (a : Nat) (b : Nat) (c : Nat) (d : Nat) (e : Nat) (f : Nat) (h30 : S 1 < 30) : jv_Ct G l yX2_adds cX2_adds 8 (some .int) 0 0 0 0 [.ref o.2.1, .int (nI a), .int (nI b), .int (nI c), .int (nI d), .int (nI e), .int (nI f)] (md_M G o F A) (jv_qi G (fun r M' => ∃ A', M' = md_M G o F A' ∧ r = nI (S 1) ∧ (∀ i, i ≠ 0 → A' i = A i) ∧ ∀ j, j < 237 → A' 0 j = nI (addS S a b c d e f j))) := by
  refine jv_Ct.of (lv := [(0, .ref o.2.1), (1, .int (nI a)), (2, .int (nI b)), (3, .int (nI c)), (4, .int (nI d)), (5, .int (nI e)), (6, .int (nI f))]) (by decide) (Nat.le_of_ble_eq_true rfl) rfl ?_
  intro x Q_ hl_ hQ X
  subst hl_
  refine jv_bipush (v := nI 45) X dX2_adds_0 rfl ?_
  refine jv_bipush (v := nI 6) X dX2_adds_2 rfl ?_
  refine jv_aload_n X dX2_adds_4 0 rfl ?_
  refine jm_getA X dX2_adds_5 0 (by decide) q2010 rfl ?_
  refine jv_iconst (v := nI 1) X dX2_adds_8 rfl ?_
  refine jm_ld (v := nI (S 1)) X hO dX2_adds_9 0 (by decide) (show 1 < 237 from (by omega)) (hS _ (by omega)) ?_
  refine jv_imul (w := nI (6 * (S 1))) X dX2_adds_10 (pk_mul _ _) ?_
  refine jv_iadd (w := nI (45 + (6 * (S 1)))) X dX2_adds_11 (nI_add _ _) ?_
  refine jv_istore (lv' := [(7, .int (nI (45 + (6 * (S 1))))), (0, .ref o.2.1), (1, .int (nI a)), (2, .int (nI b)), (3, .int (nI c)), (4, .int (nI d)), (5, .int (nI e)), (6, .int (nI f))]) X dX2_adds_12 (by decide) rfl ?_
  refine jv_aload_n X dX2_adds_14 1 rfl ?_
  refine jm_getA X dX2_adds_15 0 (by decide) q2010 rfl ?_
  refine jv_iload X dX2_adds_18 0 rfl ?_
  refine jv_iconst (v := nI 0) X dX2_adds_20 rfl ?_
  refine jv_iadd (w := nI ((45 + (6 * (S 1))) + 0)) X dX2_adds_21 (nI_add _ _) ?_
  refine jv_iload_n X dX2_adds_22 2 rfl ?_
  refine jm_st (v := nI a) X hO dX2_adds_23 0 (by decide) (show ((45 + (6 * (S 1))) + 0) < 237 from (by omega)) ?_
  have hS1 := mdA_S hS ((45 + (6 * (S 1))) + 0) a
  refine jv_aload_n X dX2_adds_24 1 rfl ?_
  refine jm_getA X dX2_adds_25 0 (by decide) q2010 rfl ?_
  refine jv_iload X dX2_adds_28 0 rfl ?_
  refine jv_iconst (v := nI 1) X dX2_adds_30 rfl ?_
  refine jv_iadd (w := nI ((45 + (6 * (S 1))) + 1)) X dX2_adds_31 (nI_add _ _) ?_
  refine jv_iload_n X dX2_adds_32 3 rfl ?_
  refine jm_st (v := nI b) X hO dX2_adds_33 0 (by decide) (show ((45 + (6 * (S 1))) + 1) < 237 from (by omega)) ?_
  have hS2 := mdA_S hS1 ((45 + (6 * (S 1))) + 1) b
  refine jv_aload_n X dX2_adds_34 1 rfl ?_
  refine jm_getA X dX2_adds_35 0 (by decide) q2010 rfl ?_
  refine jv_iload X dX2_adds_38 0 rfl ?_
  refine jv_iconst (v := nI 2) X dX2_adds_40 rfl ?_
  refine jv_iadd (w := nI ((45 + (6 * (S 1))) + 2)) X dX2_adds_41 (nI_add _ _) ?_
  refine jv_iload_n X dX2_adds_42 4 rfl ?_
  refine jm_st (v := nI c) X hO dX2_adds_43 0 (by decide) (show ((45 + (6 * (S 1))) + 2) < 237 from (by omega)) ?_
  have hS3 := mdA_S hS2 ((45 + (6 * (S 1))) + 2) c
  refine jv_aload_n X dX2_adds_44 1 rfl ?_
  refine jm_getA X dX2_adds_45 0 (by decide) q2010 rfl ?_
  refine jv_iload X dX2_adds_48 0 rfl ?_
  refine jv_iconst (v := nI 3) X dX2_adds_50 rfl ?_
  refine jv_iadd (w := nI ((45 + (6 * (S 1))) + 3)) X dX2_adds_51 (nI_add _ _) ?_
  refine jv_iload X dX2_adds_52 5 rfl ?_
  refine jm_st (v := nI d) X hO dX2_adds_54 0 (by decide) (show ((45 + (6 * (S 1))) + 3) < 237 from (by omega)) ?_
  have hS4 := mdA_S hS3 ((45 + (6 * (S 1))) + 3) d
  refine jv_aload_n X dX2_adds_55 1 rfl ?_
  refine jm_getA X dX2_adds_56 0 (by decide) q2010 rfl ?_
  refine jv_iload X dX2_adds_59 0 rfl ?_
  refine jv_iconst (v := nI 4) X dX2_adds_61 rfl ?_
  refine jv_iadd (w := nI ((45 + (6 * (S 1))) + 4)) X dX2_adds_62 (nI_add _ _) ?_
  refine jv_iload X dX2_adds_63 6 rfl ?_
  refine jm_st (v := nI e) X hO dX2_adds_65 0 (by decide) (show ((45 + (6 * (S 1))) + 4) < 237 from (by omega)) ?_
  have hS5 := mdA_S hS4 ((45 + (6 * (S 1))) + 4) e
  refine jv_aload_n X dX2_adds_66 1 rfl ?_
  refine jm_getA X dX2_adds_67 0 (by decide) q2010 rfl ?_
  refine jv_iload X dX2_adds_70 0 rfl ?_
  refine jv_iconst (v := nI 5) X dX2_adds_72 rfl ?_
  refine jv_iadd (w := nI ((45 + (6 * (S 1))) + 5)) X dX2_adds_73 (nI_add _ _) ?_
  refine jv_iload X dX2_adds_74 7 rfl ?_
  refine jm_st (v := nI f) X hO dX2_adds_76 0 (by decide) (show ((45 + (6 * (S 1))) + 5) < 237 from (by omega)) ?_
  have hS6 := mdA_S hS5 ((45 + (6 * (S 1))) + 5) f
  refine jv_aload_n X dX2_adds_77 1 rfl ?_
  refine jm_getA X dX2_adds_78 0 (by decide) q2010 rfl ?_
  refine jv_iconst (v := nI 1) X dX2_adds_81 rfl ?_
  refine jv_dup2 X dX2_adds_82 rfl rfl ?_
  refine jm_ld (v := nI (S 1)) X hO dX2_adds_83 0 (by decide) (show 1 < 237 from (by omega)) ((hS6 _ (by omega)).trans (by unfold up2; rw [if_neg (by omega), if_neg (by omega), if_neg (by omega), if_neg (by omega), if_neg (by omega), if_neg (by omega)])) ?_
  refine jv_iconst (v := nI 1) X dX2_adds_84 rfl ?_
  refine jv_iadd (w := nI ((S 1) + 1)) X dX2_adds_85 (nI_add _ _) ?_
  refine jm_st (v := nI ((S 1) + 1)) X hO dX2_adds_86 0 (by decide) (show 1 < 237 from (by omega)) ?_
  have hS7 := mdA_S hS6 1 ((S 1) + 1)
  refine jv_aload_n X dX2_adds_87 1 rfl ?_
  refine jm_getA X dX2_adds_88 0 (by decide) q2010 rfl ?_
  refine jv_iconst (v := nI 1) X dX2_adds_91 rfl ?_
  refine jm_ld (v := nI ((S 1) + 1)) X hO dX2_adds_92 0 (by decide) (show 1 < 237 from (by omega)) ((hS7 _ (by omega)).trans (by unfold up2; rw [if_pos rfl])) ?_
  refine jv_iconst (v := nI 1) X dX2_adds_93 rfl ?_
  refine jv_isub (w := nI (S 1)) X dX2_adds_94 (ni_a1 _) ?_
  exact jv_iret (v := nI (S 1)) X dX2_adds_95 rfl hQ (Nat.le_of_ble_eq_true rfl) (Nat.le_of_ble_eq_true rfl) ⟨_, rfl, ⟨rfl, fun i hi => by simp only [mdA_i hi], hS7⟩⟩
theorem hd_X2_wants : jv_dd yX2_wants 2 := by unfold jv_dd; decide +kernel
set_option maxHeartbeats 4000000 in
theorem c_X2_wants {l : Launch} {G : jv_G} {o : md_O} {F : Nat → Int32} {A : Nat → Nat → Int32} {S : Nat → Nat} (hO : md_K G o) (hS : ∀ j, j < 237 → A 0 j = nI (S j)) (p : Int32) (r_ : Int32) (hW : wfB S) : jv_Ct G l yX2_wants cX2_wants 3 (some .int) 2 0 0 43 [.ref o.2.1, .int p, .int r_] (md_M G o F A) (jv_qi G (fun r M' => ∃ A', M' = md_M G o F A' ∧ r = (wantsR S p r_).1 ∧ (∀ i, i ≠ 0 → A' i = A i) ∧ ∀ j, j < 237 → A' 0 j = nI ((wantsR S p r_).2 j))) := by
  refine jv_Ct.of (lv := [(0, .ref o.2.1), (1, .int p), (2, .int r_)]) (by decide) (Nat.le_of_ble_eq_true rfl) rfl ?_
  intro x Q_ hl_ hQ X
  subst hl_
  refine jv_aload_n X dX2_wants_0 0 rfl ?_
  refine jv_iload_n X dX2_wants_1 1 rfl ?_
  refine jv_ask (jv_runV (As := [.int p]) (rest := []) X dX2_wants_2 (c_X2_isPack hO hS p) (lw_V q2108 q2110 qs41 q100 q2111) hd_X2_isPack md_M_o rfl (Nat.le_of_ble_eq_true rfl) (Nat.le_of_ble_eq_true rfl) (Nat.le_of_ble_eq_true rfl) (Nat.le_of_ble_eq_true rfl) rfl (Nat.le_of_ble_eq_true rfl)) ?_
  refine jb_if_ne 10 X dX2_wants_5 (by decide) (fun c5 => ?_) (fun c5 => ?_)
  · skip
    refine jv_iload_n X dX2_wants_10 2 rfl ?_
    refine jv_ask (jv_runS (As := [.int r_]) (rest := []) X dX2_wants_11 (c_X2_isRange r_) (lw_S q2150 q2151 q100 q2152) hd_X2_isRange (Nat.le_of_ble_eq_true rfl) (Nat.le_of_ble_eq_true rfl) (Nat.le_of_ble_eq_true rfl) (Nat.le_of_ble_eq_true rfl) rfl (Nat.le_of_ble_eq_true rfl)) ?_
    refine jb_if_ne 20 X dX2_wants_14 (by decide) (fun c14 => ?_) (fun c14 => ?_)
    · skip
      have hr := hW.r
      refine jv_aload_n X dX2_wants_20 0 rfl ?_
      refine jm_getA X dX2_wants_21 0 (by decide) q2010 rfl ?_
      refine jv_iconst (v := nI 1) X dX2_wants_24 rfl ?_
      refine jm_ld (v := nI (S 1)) X hO dX2_wants_25 0 (by decide) (show 1 < 237 from (by omega)) (hS _ (by omega)) ?_
      refine jv_bipush (v := nI 30) X dX2_wants_26 rfl ?_
      refine jn_icmp_ne 36 X dX2_wants_28 (by decide) (by omega) (by decide) (fun c28 => ?_) (fun c28 => ?_)
      · skip
        have hq_p : nI (p.toNatClampNeg) = p := (v_isPack_n hW c5).2
        refine jv_to (lv' := [(0, .ref o.2.1), (1, .int (nI p.toNatClampNeg)), (2, .int r_)]) (st' := []) (by rw [hq_p]) rfl ?_
        have hq_r_ : nI (r_.toNatClampNeg) = r_ := (v_isRange_n c14).2
        refine jv_to (lv' := [(0, .ref o.2.1), (1, .int (nI p.toNatClampNeg)), (2, .int (nI r_.toNatClampNeg))]) (st' := []) (by rw [hq_r_]) rfl ?_
        refine jv_aload_n X dX2_wants_36 0 rfl ?_
        refine jv_iconst (v := nI 0) X dX2_wants_37 rfl ?_
        refine jv_iload_n X dX2_wants_38 1 rfl ?_
        refine jv_iconst (v := nI 0) X dX2_wants_39 rfl ?_
        refine jv_iconst (v := nI 0) X dX2_wants_40 rfl ?_
        refine jv_iload_n X dX2_wants_41 2 rfl ?_
        refine jv_iconst (v := nI 0) X dX2_wants_42 rfl ?_
        refine jv_calli (jv_runV (As := [.int (nI 0), .int (nI p.toNatClampNeg), .int (nI 0), .int (nI 0), .int (nI r_.toNatClampNeg), .int (nI 0)]) (rest := []) X dX2_wants_43 (c_X2_adds hO hS 0 p.toNatClampNeg 0 0 r_.toNatClampNeg 0 (by omega)) (lw_V q2173 q2175 qs50 q100 q2176) hd_X2_adds md_M_o rfl (Nat.le_of_ble_eq_true rfl) (Nat.le_of_ble_eq_true rfl) (Nat.le_of_ble_eq_true rfl) (Nat.le_of_ble_eq_true rfl) rfl (Nat.le_of_ble_eq_true rfl)) (fun r1 M_ h_ => ?_)
        obtain ⟨A1, rfl, h1⟩ := h_
        exact jv_iret (v := r1) X dX2_wants_46 rfl hQ (Nat.le_of_ble_eq_true rfl) (Nat.le_of_ble_eq_true rfl) ⟨_, rfl, (by rw [wantsR, if_pos c5, if_pos c14, if_neg c28]; exact ⟨h1.1, h1.2.1, h1.2.2⟩)⟩
      · skip
        refine jv_bipush (v := (-4)) X dX2_wants_31 rfl ?_
        refine jv_goto 46 X dX2_wants_33 (by decide) ?_
        exact jv_iret (v := (-4)) X dX2_wants_46 rfl hQ (Nat.le_of_ble_eq_true rfl) (Nat.le_of_ble_eq_true rfl) ⟨_, rfl, (by rw [wantsR, if_pos c5, if_pos c14, if_pos c28]; exact ⟨rfl, fun _ _ => rfl, hS⟩)⟩
    · skip
      refine jv_bipush (v := (-2)) X dX2_wants_17 rfl ?_
      exact jv_iret (v := (-2)) X dX2_wants_19 rfl hQ (Nat.le_of_ble_eq_true rfl) (Nat.le_of_ble_eq_true rfl) ⟨_, rfl, (by rw [wantsR, if_pos c5, if_neg (Bool.eq_false_iff.mp c14)]; exact ⟨rfl, fun _ _ => rfl, hS⟩)⟩
  · skip
    refine jv_iconst (v := (-1)) X dX2_wants_8 rfl ?_
    exact jv_iret (v := (-1)) X dX2_wants_9 rfl hQ (Nat.le_of_ble_eq_true rfl) (Nat.le_of_ble_eq_true rfl) ⟨_, rfl, (by rw [wantsR, if_neg (Bool.eq_false_iff.mp c5)]; exact ⟨rfl, fun _ _ => rfl, hS⟩)⟩
theorem hd_X2_holdsOther : jv_dd yX2_holdsOther 5 := by unfold jv_dd; decide +kernel
set_option maxHeartbeats 4000000 in
theorem c_X2_holdsOther {l : Launch} {G : jv_G} {o : md_O} {F : Nat → Int32} {A : Nat → Nat → Int32} {S : Nat → Nat} (hO : md_K G o) (hS : ∀ j, j < 237 → A 0 j = nI (S j)) (k : Nat) (p : Int32) (v : Int32) (q : Int32) (r_ : Int32) (hW : wfB S) : jv_Ct G l yX2_holdsOther cX2_holdsOther 6 (some .int) 3 0 0 65 [.ref o.2.1, .int (nI k), .int p, .int v, .int q, .int r_] (md_M G o F A) (jv_qi G (fun r M' => ∃ A', M' = md_M G o F A' ∧ r = (holdsR S k p v q r_).1 ∧ (∀ i, i ≠ 0 → A' i = A i) ∧ ∀ j, j < 237 → A' 0 j = nI ((holdsR S k p v q r_).2 j))) := by
  refine jv_Ct.of (lv := [(0, .ref o.2.1), (1, .int (nI k)), (2, .int p), (3, .int v), (4, .int q), (5, .int r_)]) (by decide) (Nat.le_of_ble_eq_true rfl) rfl ?_
  intro x Q_ hl_ hQ X
  subst hl_
  refine jv_aload_n X dX2_holdsOther_0 0 rfl ?_
  refine jv_iload_n X dX2_holdsOther_1 2 rfl ?_
  refine jv_iload_n X dX2_holdsOther_2 3 rfl ?_
  refine jv_ask (jv_runV (As := [.int p, .int v]) (rest := []) X dX2_holdsOther_3 (c_X2_isVersion hO hS p v hW) (lw_V q2127 q2129 qs43 q100 q2130) hd_X2_isVersion md_M_o rfl (Nat.le_of_ble_eq_true rfl) (Nat.le_of_ble_eq_true rfl) (Nat.le_of_ble_eq_true rfl) (Nat.le_of_ble_eq_true rfl) rfl (Nat.le_of_ble_eq_true rfl)) ?_
  refine jb_if_eq 18 X dX2_holdsOther_6 (by decide) (fun c6 => ?_) (fun c6 => ?_)
  · skip
    refine jv_iconst (v := (-1)) X dX2_holdsOther_18 rfl ?_
    exact jv_iret (v := (-1)) X dX2_holdsOther_19 rfl hQ (Nat.le_of_ble_eq_true rfl) (Nat.le_of_ble_eq_true rfl) ⟨_, rfl, (by rw [holdsR, if_neg (Bool.eq_false_iff.mp c6)]; exact ⟨rfl, fun _ _ => rfl, hS⟩)⟩
  · skip
    refine jv_aload_n X dX2_holdsOther_9 0 rfl ?_
    refine jv_iload X dX2_holdsOther_10 4 rfl ?_
    refine jv_ask (jv_runV (As := [.int q]) (rest := []) X dX2_holdsOther_12 (c_X2_isPack hO hS q) (lw_V q2108 q2110 qs41 q100 q2111) hd_X2_isPack md_M_o rfl (Nat.le_of_ble_eq_true rfl) (Nat.le_of_ble_eq_true rfl) (Nat.le_of_ble_eq_true rfl) (Nat.le_of_ble_eq_true rfl) rfl (Nat.le_of_ble_eq_true rfl)) ?_
    refine jb_if_ne 20 X dX2_holdsOther_15 (by decide) (fun c15 => ?_) (fun c15 => ?_)
    · skip
      refine jv_iload X dX2_holdsOther_20 5 rfl ?_
      refine jv_ask (jv_runS (As := [.int r_]) (rest := []) X dX2_holdsOther_22 (c_X2_isRange r_) (lw_S q2150 q2151 q100 q2152) hd_X2_isRange (Nat.le_of_ble_eq_true rfl) (Nat.le_of_ble_eq_true rfl) (Nat.le_of_ble_eq_true rfl) (Nat.le_of_ble_eq_true rfl) rfl (Nat.le_of_ble_eq_true rfl)) ?_
      refine jb_if_eq 34 X dX2_holdsOther_25 (by decide) (fun c25 => ?_) (fun c25 => ?_)
      · skip
        refine jv_bipush (v := (-2)) X dX2_holdsOther_34 rfl ?_
        exact jv_iret (v := (-2)) X dX2_holdsOther_36 rfl hQ (Nat.le_of_ble_eq_true rfl) (Nat.le_of_ble_eq_true rfl) ⟨_, rfl, (by rw [holdsR, if_pos c6, if_pos c15, if_neg (Bool.eq_false_iff.mp c25)]; exact ⟨rfl, fun _ _ => rfl, hS⟩)⟩
      · skip
        refine jv_iload_n X dX2_holdsOther_28 2 rfl ?_
        refine jv_iload X dX2_holdsOther_29 4 rfl ?_
        refine jv_icmp_ne 37 X dX2_holdsOther_31 (by decide) (fun c31 => ?_) (fun c31 => ?_)
        · skip
          have hr := hW.r
          refine jv_aload_n X dX2_holdsOther_37 0 rfl ?_
          refine jm_getA X dX2_holdsOther_38 0 (by decide) q2010 rfl ?_
          refine jv_iconst (v := nI 1) X dX2_holdsOther_41 rfl ?_
          refine jm_ld (v := nI (S 1)) X hO dX2_holdsOther_42 0 (by decide) (show 1 < 237 from (by omega)) (hS _ (by omega)) ?_
          refine jv_bipush (v := nI 30) X dX2_holdsOther_43 rfl ?_
          refine jn_icmp_ne 53 X dX2_holdsOther_45 (by decide) (by omega) (by decide) (fun c45 => ?_) (fun c45 => ?_)
          · skip
            have hq_p : nI (p.toNatClampNeg) = p := (v_isPack_n hW (v_isVersion_p c6)).2
            refine jv_to (lv' := [(0, .ref o.2.1), (1, .int (nI k)), (2, .int (nI p.toNatClampNeg)), (3, .int v), (4, .int q), (5, .int r_)]) (st' := []) (by rw [hq_p]) rfl ?_
            have hq_v : nI (v.toNatClampNeg) = v := (v_isVersion_v hW c6).2
            refine jv_to (lv' := [(0, .ref o.2.1), (1, .int (nI k)), (2, .int (nI p.toNatClampNeg)), (3, .int (nI v.toNatClampNeg)), (4, .int q), (5, .int r_)]) (st' := []) (by rw [hq_v]) rfl ?_
            have hq_q : nI (q.toNatClampNeg) = q := (v_isPack_n hW c15).2
            refine jv_to (lv' := [(0, .ref o.2.1), (1, .int (nI k)), (2, .int (nI p.toNatClampNeg)), (3, .int (nI v.toNatClampNeg)), (4, .int (nI q.toNatClampNeg)), (5, .int r_)]) (st' := []) (by rw [hq_q]) rfl ?_
            have hq_r_ : nI (r_.toNatClampNeg) = r_ := (v_isRange_n c25).2
            refine jv_to (lv' := [(0, .ref o.2.1), (1, .int (nI k)), (2, .int (nI p.toNatClampNeg)), (3, .int (nI v.toNatClampNeg)), (4, .int (nI q.toNatClampNeg)), (5, .int (nI r_.toNatClampNeg))]) (st' := []) (by rw [hq_r_]) rfl ?_
            refine jv_aload_n X dX2_holdsOther_53 0 rfl ?_
            refine jv_iload_n X dX2_holdsOther_54 1 rfl ?_
            refine jv_iload_n X dX2_holdsOther_55 2 rfl ?_
            refine jv_iload_n X dX2_holdsOther_56 3 rfl ?_
            refine jv_iload X dX2_holdsOther_57 4 rfl ?_
            refine jv_iload X dX2_holdsOther_59 5 rfl ?_
            refine jv_iconst (v := nI 0) X dX2_holdsOther_61 rfl ?_
            refine jv_calli (jv_runV (As := [.int (nI k), .int (nI p.toNatClampNeg), .int (nI v.toNatClampNeg), .int (nI q.toNatClampNeg), .int (nI r_.toNatClampNeg), .int (nI 0)]) (rest := []) X dX2_holdsOther_62 (c_X2_adds hO hS k p.toNatClampNeg v.toNatClampNeg q.toNatClampNeg r_.toNatClampNeg 0 (by omega)) (lw_V q2173 q2175 qs50 q100 q2176) hd_X2_adds md_M_o rfl (Nat.le_of_ble_eq_true rfl) (Nat.le_of_ble_eq_true rfl) (Nat.le_of_ble_eq_true rfl) (Nat.le_of_ble_eq_true rfl) rfl (Nat.le_of_ble_eq_true rfl)) (fun r1 M_ h_ => ?_)
            obtain ⟨A1, rfl, h1⟩ := h_
            exact jv_iret (v := r1) X dX2_holdsOther_65 rfl hQ (Nat.le_of_ble_eq_true rfl) (Nat.le_of_ble_eq_true rfl) ⟨_, rfl, (by rw [holdsR, if_pos c6, if_pos c15, if_pos c25, if_neg c31, if_neg c45]; exact ⟨h1.1, h1.2.1, h1.2.2⟩)⟩
          · skip
            refine jv_bipush (v := (-4)) X dX2_holdsOther_48 rfl ?_
            refine jv_goto 65 X dX2_holdsOther_50 (by decide) ?_
            exact jv_iret (v := (-4)) X dX2_holdsOther_65 rfl hQ (Nat.le_of_ble_eq_true rfl) (Nat.le_of_ble_eq_true rfl) ⟨_, rfl, (by rw [holdsR, if_pos c6, if_pos c15, if_pos c25, if_neg c31, if_pos c45]; exact ⟨rfl, fun _ _ => rfl, hS⟩)⟩
        · skip
          refine jv_bipush (v := (-2)) X dX2_holdsOther_34 rfl ?_
          exact jv_iret (v := (-2)) X dX2_holdsOther_36 rfl hQ (Nat.le_of_ble_eq_true rfl) (Nat.le_of_ble_eq_true rfl) ⟨_, rfl, (by rw [holdsR, if_pos c6, if_pos c15, if_pos c25, if_pos c31]; exact ⟨rfl, fun _ _ => rfl, hS⟩)⟩
    · skip
      refine jv_iconst (v := (-1)) X dX2_holdsOther_18 rfl ?_
      exact jv_iret (v := (-1)) X dX2_holdsOther_19 rfl hQ (Nat.le_of_ble_eq_true rfl) (Nat.le_of_ble_eq_true rfl) ⟨_, rfl, (by rw [holdsR, if_pos c6, if_neg (Bool.eq_false_iff.mp c15)]; exact ⟨rfl, fun _ _ => rfl, hS⟩)⟩
theorem hd_X2_done : jv_dd yX2_done 1 := by unfold jv_dd; decide +kernel
set_option maxHeartbeats 4000000 in
theorem c_X2_done {l : Launch} {G : jv_G} {o : md_O} {F : Nat → Int32} {A : Nat → Nat → Int32} (hO : md_K G o) (a : Int32) (k : Nat) (hk8 : k ≤ 8) (hF4 : F 4 = nI k) (H : Nat → Nat → Nat) (hH : ∀ i, i < k → ∀ j, j < 237 → A 3 (237 * i + j) = nI (H i j)) (R : Nat → Nat) (hR : ∀ j, j < 237 → A 2 j = nI (R j)) : jv_Ct G l yX2_done cX2_done 2 (some .int) 1 0 0 22 [.ref o.2.1, .int a] (md_M G o F A) (jv_qi G (fun r M' => ∃ F' A', M' = md_M G o F' A' ∧ r = a ∧ (if 0 ≤ a then chP k H R F A F' A' else F' = F ∧ A' = A))) := by
  refine jv_Ct.of (lv := [(0, .ref o.2.1), (1, .int a)]) (by decide) (Nat.le_of_ble_eq_true rfl) rfl ?_
  intro x Q_ hl_ hQ X
  subst hl_
  refine jv_iload_n X dX2_done_0 1 rfl ?_
  refine jv_if_ge 8 X dX2_done_1 (by decide) (fun c1 => ?_) (fun c1 => ?_)
  · skip
    refine jv_aload_n X dX2_done_8 0 rfl ?_
    refine jv_iload_n X dX2_done_9 1 rfl ?_
    refine jv_calli (jv_runV (As := [.int a]) (rest := []) X dX2_done_10 (c_X2_changed hO a k hk8 hF4 H hH R hR) (lw_V q2100 q2102 qs40 q100 q2103) hd_X2_changed md_M_o rfl (Nat.le_of_ble_eq_true rfl) (Nat.le_of_ble_eq_true rfl) (Nat.le_of_ble_eq_true rfl) (Nat.le_of_ble_eq_true rfl) rfl (Nat.le_of_ble_eq_true rfl)) (fun r1 M_ h_ => ?_)
    obtain ⟨F1, A1, rfl, h1⟩ := h_
    exact jv_iret (v := r1) X dX2_done_13 rfl hQ (Nat.le_of_ble_eq_true rfl) (Nat.le_of_ble_eq_true rfl) ⟨_, _, rfl, ⟨h1.1, by rw [if_pos c1]; exact h1.2⟩⟩
  · skip
    refine jv_iload_n X dX2_done_4 1 rfl ?_
    refine jv_goto 13 X dX2_done_5 (by decide) ?_
    exact jv_iret (v := a) X dX2_done_13 rfl hQ (Nat.le_of_ble_eq_true rfl) (Nat.le_of_ble_eq_true rfl) ⟨_, _, rfl, ⟨rfl, by rw [if_neg c1]; exact ⟨rfl, rfl⟩⟩⟩
theorem m_done_end {F F' : Nat → Int32} {A A1 A' : Nat → Nat → Int32} {S : Nat → Nat} {z : t_Z} {x : Int32 × (Nat → Nat)} {r r' : Int32} (hz : isZ F A z) (hzS : zS z = S) (hr : r = x.1) (hr' : r' = r) (hn : ¬ 0 ≤ x.1 → x.2 = S) (hAi : ∀ i, i ≠ 0 → i ≠ 2 → A1 i = A i) (hS : ∀ j, j < 237 → A1 0 j = nI (x.2 j)) (h : if 0 ≤ r then chP (zk z) (zH z) S F A1 F' A' else F' = F ∧ A' = A1) : r' = (m_done z S x).1 ∧ isZ F' A' (m_done z S x).2 := by
  subst hr hr'
  unfold m_done
  by_cases c : 0 ≤ x.1
  · rw [if_pos c] at h ⊢
    exact ⟨rfl, isZ.put hz hAi hS h⟩
  · rw [if_neg c] at h ⊢
    obtain ⟨rfl, rfl⟩ := h
    refine ⟨rfl, ?_⟩
    obtain ⟨h0, h1, h2, h3, h4, h5, h6, h7, h8, h9, h10⟩ := hz
    refine ⟨fun j hj => by rw [hS j hj, hn c, hzS], h1, ?_, h3, ?_, h5, ?_, h7, h8, h9, ?_⟩
    · rw [hAi 1 (by decide) (by decide)]; exact h2
    · rw [hAi 3 (by decide) (by decide)]; exact h4
    · rw [hAi 6 (by decide) (by decide)]; exact h6
    · rw [hAi 10 (by decide) (by decide)]; exact h10
theorem hd_X2_want : jv_dd yX2_want 2 := by unfold jv_dd; decide +kernel
set_option maxHeartbeats 4000000 in
theorem c_X2_want {l : Launch} {G : jv_G} {o : md_O} {F : Nat → Int32} {A : Nat → Nat → Int32} {S : Nat → Nat} (hO : md_K G o) (hS : ∀ j, j < 237 → A 0 j = nI (S j)) {z : t_Z} (hz : isZ F A z) (hk8 : zk z ≤ 8) (hW : wfB S) (hzS : zS z = S) (p : Int32) (r_ : Int32)  : jv_Ct G l yX2_want cX2_want 3 (some .int) 3 0 0 65 [.ref o.2.1, .int p, .int r_] (md_M G o F A) (jv_qi G (fun r M' => ∃ F' A', M' = md_M G o F' A' ∧ r = (m_done z S (wantsR S p r_)).1 ∧ isZ F' A' (m_done z S (wantsR S p r_)).2)) := by
  refine jv_Ct.of (lv := [(0, .ref o.2.1), (1, .int p), (2, .int r_)]) (by decide) (Nat.le_of_ble_eq_true rfl) rfl ?_
  intro x Q_ hl_ hQ X
  subst hl_
  refine jv_aload_n X dX2_want_0 0 rfl ?_
  refine jv_callv (jv_runV (As := []) (rest := []) X dX2_want_1 (c_X2_remembers hO hS) (lw_V q2096 q2098 qs39 q100 q2099) hd_X2_remembers md_M_o rfl (Nat.le_of_ble_eq_true rfl) (Nat.le_of_ble_eq_true rfl) (Nat.le_of_ble_eq_true rfl) (Nat.le_of_ble_eq_true rfl) rfl (Nat.le_of_ble_eq_true rfl)) (fun M_ h_ => ?_)
  obtain ⟨A1, rfl, h1⟩ := h_
  have hS1 : ∀ j, j < 237 → A1 0 j = nI (S j) := fun j hj => by rw [h1.1 0 (by decide)]; exact hS j hj
  refine jv_aload_n X dX2_want_4 0 rfl ?_
  refine jv_aload_n X dX2_want_5 0 rfl ?_
  refine jv_iload_n X dX2_want_6 1 rfl ?_
  refine jv_iload_n X dX2_want_7 2 rfl ?_
  refine jv_calli (jv_runV (As := [.int p, .int r_]) (rest := [.ref o.2.1]) X dX2_want_8 (c_X2_wants hO hS1 p r_ hW) (lw_V q2169 q2171 qs49 q100 q2172) hd_X2_wants md_M_o rfl (Nat.le_of_ble_eq_true rfl) (Nat.le_of_ble_eq_true rfl) (Nat.le_of_ble_eq_true rfl) (Nat.le_of_ble_eq_true rfl) rfl (Nat.le_of_ble_eq_true rfl)) (fun r2 M_ h_ => ?_)
  obtain ⟨A2, rfl, h2⟩ := h_
  have hAi : ∀ i, i ≠ 0 → i ≠ 2 → A2 i = A i := fun i hi0 hi2 => by first | (simp only [mdA_i hi0]; exact ((h2.2.1 i hi0).trans (h1.1 i hi2))) | exact ((h2.2.1 i hi0).trans (h1.1 i hi2))
  have hAr : ∀ j, j < 237 → A2 2 j = nI (S j) := fun j hj => by first | (simp only [mdA_i (show (2 : Nat) ≠ 0 by decide)]; exact ((congrFun (h2.2.1 2 (by decide)) j).trans (h1.2 j hj))) | exact ((congrFun (h2.2.1 2 (by decide)) j).trans (h1.2 j hj))
  refine jv_calli (jv_runV (As := [.int r2]) (rest := []) X dX2_want_11 (c_X2_done hO r2 (zk z) hk8 hz.kp (zH z) (fun i hi j hj => by rw [hAi 3 (by decide) (by decide)]; exact hz.hi i hi j hj) S hAr) (lw_V q2177 q2179 qs51 q100 q2180) hd_X2_done md_M_o rfl (Nat.le_of_ble_eq_true rfl) (Nat.le_of_ble_eq_true rfl) (Nat.le_of_ble_eq_true rfl) (Nat.le_of_ble_eq_true rfl) rfl (Nat.le_of_ble_eq_true rfl)) (fun r3 M_ h_ => ?_)
  obtain ⟨F3, A3, rfl, h3⟩ := h_
  exact jv_iret (v := r3) X dX2_want_14 rfl hQ (Nat.le_of_ble_eq_true rfl) (Nat.le_of_ble_eq_true rfl) ⟨_, _, rfl, (m_done_end hz hzS h2.1 h3.1 (wantsR_neg hW) hAi h2.2.2 h3.2)⟩
theorem hd_X2_need : jv_dd yX2_need 4 := by unfold jv_dd; decide +kernel
set_option maxHeartbeats 4000000 in
theorem c_X2_need {l : Launch} {G : jv_G} {o : md_O} {F : Nat → Int32} {A : Nat → Nat → Int32} {S : Nat → Nat} (hO : md_K G o) (hS : ∀ j, j < 237 → A 0 j = nI (S j)) {z : t_Z} (hz : isZ F A z) (hk8 : zk z ≤ 8) (hW : wfB S) (hzS : zS z = S) (p : Int32) (v : Int32) (q : Int32) (r_ : Int32)  : jv_Ct G l yX2_need cX2_need 5 (some .int) 4 0 0 90 [.ref o.2.1, .int p, .int v, .int q, .int r_] (md_M G o F A) (jv_qi G (fun r M' => ∃ F' A', M' = md_M G o F' A' ∧ r = (m_done z S (holdsR S 1 p v q r_)).1 ∧ isZ F' A' (m_done z S (holdsR S 1 p v q r_)).2)) := by
  refine jv_Ct.of (lv := [(0, .ref o.2.1), (1, .int p), (2, .int v), (3, .int q), (4, .int r_)]) (by decide) (Nat.le_of_ble_eq_true rfl) rfl ?_
  intro x Q_ hl_ hQ X
  subst hl_
  refine jv_aload_n X dX2_need_0 0 rfl ?_
  refine jv_callv (jv_runV (As := []) (rest := []) X dX2_need_1 (c_X2_remembers hO hS) (lw_V q2096 q2098 qs39 q100 q2099) hd_X2_remembers md_M_o rfl (Nat.le_of_ble_eq_true rfl) (Nat.le_of_ble_eq_true rfl) (Nat.le_of_ble_eq_true rfl) (Nat.le_of_ble_eq_true rfl) rfl (Nat.le_of_ble_eq_true rfl)) (fun M_ h_ => ?_)
  obtain ⟨A1, rfl, h1⟩ := h_
  have hS1 : ∀ j, j < 237 → A1 0 j = nI (S j) := fun j hj => by rw [h1.1 0 (by decide)]; exact hS j hj
  refine jv_aload_n X dX2_need_4 0 rfl ?_
  refine jv_aload_n X dX2_need_5 0 rfl ?_
  refine jv_iconst (v := nI 1) X dX2_need_6 rfl ?_
  refine jv_iload_n X dX2_need_7 1 rfl ?_
  refine jv_iload_n X dX2_need_8 2 rfl ?_
  refine jv_iload_n X dX2_need_9 3 rfl ?_
  refine jv_iload X dX2_need_10 4 rfl ?_
  refine jv_calli (jv_runV (As := [.int (nI 1), .int p, .int v, .int q, .int r_]) (rest := [.ref o.2.1]) X dX2_need_12 (c_X2_holdsOther hO hS1 1 p v q r_ hW) (lw_V q2185 q2187 qs52 q100 q2188) hd_X2_holdsOther md_M_o rfl (Nat.le_of_ble_eq_true rfl) (Nat.le_of_ble_eq_true rfl) (Nat.le_of_ble_eq_true rfl) (Nat.le_of_ble_eq_true rfl) rfl (Nat.le_of_ble_eq_true rfl)) (fun r2 M_ h_ => ?_)
  obtain ⟨A2, rfl, h2⟩ := h_
  have hAi : ∀ i, i ≠ 0 → i ≠ 2 → A2 i = A i := fun i hi0 hi2 => by first | (simp only [mdA_i hi0]; exact ((h2.2.1 i hi0).trans (h1.1 i hi2))) | exact ((h2.2.1 i hi0).trans (h1.1 i hi2))
  have hAr : ∀ j, j < 237 → A2 2 j = nI (S j) := fun j hj => by first | (simp only [mdA_i (show (2 : Nat) ≠ 0 by decide)]; exact ((congrFun (h2.2.1 2 (by decide)) j).trans (h1.2 j hj))) | exact ((congrFun (h2.2.1 2 (by decide)) j).trans (h1.2 j hj))
  refine jv_calli (jv_runV (As := [.int r2]) (rest := []) X dX2_need_15 (c_X2_done hO r2 (zk z) hk8 hz.kp (zH z) (fun i hi j hj => by rw [hAi 3 (by decide) (by decide)]; exact hz.hi i hi j hj) S hAr) (lw_V q2177 q2179 qs51 q100 q2180) hd_X2_done md_M_o rfl (Nat.le_of_ble_eq_true rfl) (Nat.le_of_ble_eq_true rfl) (Nat.le_of_ble_eq_true rfl) (Nat.le_of_ble_eq_true rfl) rfl (Nat.le_of_ble_eq_true rfl)) (fun r3 M_ h_ => ?_)
  obtain ⟨F3, A3, rfl, h3⟩ := h_
  exact jv_iret (v := r3) X dX2_need_18 rfl hQ (Nat.le_of_ble_eq_true rfl) (Nat.le_of_ble_eq_true rfl) ⟨_, _, rfl, (m_done_end hz hzS h2.1 h3.1 (holdsR_neg hW) hAi h2.2.2 h3.2)⟩
theorem hd_X2_bar : jv_dd yX2_bar 4 := by unfold jv_dd; decide +kernel
set_option maxHeartbeats 4000000 in
theorem c_X2_bar {l : Launch} {G : jv_G} {o : md_O} {F : Nat → Int32} {A : Nat → Nat → Int32} {S : Nat → Nat} (hO : md_K G o) (hS : ∀ j, j < 237 → A 0 j = nI (S j)) {z : t_Z} (hz : isZ F A z) (hk8 : zk z ≤ 8) (hW : wfB S) (hzS : zS z = S) (p : Int32) (v : Int32) (q : Int32) (r_ : Int32)  : jv_Ct G l yX2_bar cX2_bar 5 (some .int) 4 0 0 90 [.ref o.2.1, .int p, .int v, .int q, .int r_] (md_M G o F A) (jv_qi G (fun r M' => ∃ F' A', M' = md_M G o F' A' ∧ r = (m_done z S (holdsR S 2 p v q r_)).1 ∧ isZ F' A' (m_done z S (holdsR S 2 p v q r_)).2)) := by
  refine jv_Ct.of (lv := [(0, .ref o.2.1), (1, .int p), (2, .int v), (3, .int q), (4, .int r_)]) (by decide) (Nat.le_of_ble_eq_true rfl) rfl ?_
  intro x Q_ hl_ hQ X
  subst hl_
  refine jv_aload_n X dX2_bar_0 0 rfl ?_
  refine jv_callv (jv_runV (As := []) (rest := []) X dX2_bar_1 (c_X2_remembers hO hS) (lw_V q2096 q2098 qs39 q100 q2099) hd_X2_remembers md_M_o rfl (Nat.le_of_ble_eq_true rfl) (Nat.le_of_ble_eq_true rfl) (Nat.le_of_ble_eq_true rfl) (Nat.le_of_ble_eq_true rfl) rfl (Nat.le_of_ble_eq_true rfl)) (fun M_ h_ => ?_)
  obtain ⟨A1, rfl, h1⟩ := h_
  have hS1 : ∀ j, j < 237 → A1 0 j = nI (S j) := fun j hj => by rw [h1.1 0 (by decide)]; exact hS j hj
  refine jv_aload_n X dX2_bar_4 0 rfl ?_
  refine jv_aload_n X dX2_bar_5 0 rfl ?_
  refine jv_iconst (v := nI 2) X dX2_bar_6 rfl ?_
  refine jv_iload_n X dX2_bar_7 1 rfl ?_
  refine jv_iload_n X dX2_bar_8 2 rfl ?_
  refine jv_iload_n X dX2_bar_9 3 rfl ?_
  refine jv_iload X dX2_bar_10 4 rfl ?_
  refine jv_calli (jv_runV (As := [.int (nI 2), .int p, .int v, .int q, .int r_]) (rest := [.ref o.2.1]) X dX2_bar_12 (c_X2_holdsOther hO hS1 2 p v q r_ hW) (lw_V q2185 q2187 qs52 q100 q2188) hd_X2_holdsOther md_M_o rfl (Nat.le_of_ble_eq_true rfl) (Nat.le_of_ble_eq_true rfl) (Nat.le_of_ble_eq_true rfl) (Nat.le_of_ble_eq_true rfl) rfl (Nat.le_of_ble_eq_true rfl)) (fun r2 M_ h_ => ?_)
  obtain ⟨A2, rfl, h2⟩ := h_
  have hAi : ∀ i, i ≠ 0 → i ≠ 2 → A2 i = A i := fun i hi0 hi2 => by first | (simp only [mdA_i hi0]; exact ((h2.2.1 i hi0).trans (h1.1 i hi2))) | exact ((h2.2.1 i hi0).trans (h1.1 i hi2))
  have hAr : ∀ j, j < 237 → A2 2 j = nI (S j) := fun j hj => by first | (simp only [mdA_i (show (2 : Nat) ≠ 0 by decide)]; exact ((congrFun (h2.2.1 2 (by decide)) j).trans (h1.2 j hj))) | exact ((congrFun (h2.2.1 2 (by decide)) j).trans (h1.2 j hj))
  refine jv_calli (jv_runV (As := [.int r2]) (rest := []) X dX2_bar_15 (c_X2_done hO r2 (zk z) hk8 hz.kp (zH z) (fun i hi j hj => by rw [hAi 3 (by decide) (by decide)]; exact hz.hi i hi j hj) S hAr) (lw_V q2177 q2179 qs51 q100 q2180) hd_X2_done md_M_o rfl (Nat.le_of_ble_eq_true rfl) (Nat.le_of_ble_eq_true rfl) (Nat.le_of_ble_eq_true rfl) (Nat.le_of_ble_eq_true rfl) rfl (Nat.le_of_ble_eq_true rfl)) (fun r3 M_ h_ => ?_)
  obtain ⟨F3, A3, rfl, h3⟩ := h_
  exact jv_iret (v := r3) X dX2_bar_18 rfl hQ (Nat.le_of_ble_eq_true rfl) (Nat.le_of_ble_eq_true rfl) ⟨_, _, rfl, (m_done_end hz hzS h2.1 h3.1 (holdsR_neg hW) hAi h2.2.2 h3.2)⟩
theorem hd_X2_drop : jv_dd yX2_drop 0 := by unfold jv_dd; decide +kernel
set_option maxHeartbeats 4000000 in
theorem c_X2_drop {l : Launch} {G : jv_G} {o : md_O} {F : Nat → Int32} {A : Nat → Nat → Int32} {S : Nat → Nat} (hO : md_K G o) (hS : ∀ j, j < 237 → A 0 j = nI (S j)) {z : t_Z} (hz : isZ F A z) (hk8 : zk z ≤ 8) (hW : wfB S)   : jv_Ct G l yX2_drop cX2_drop 1 (some .int) 1 0 0 22 [.ref o.2.1] (md_M G o F A) (jv_qi G (fun r M' => ∃ F' A', M' = md_M G o F' A' ∧ r = (m_drop z S).1 ∧ isZ F' A' (m_drop z S).2)) := by
  refine jv_Ct.of (lv := [(0, .ref o.2.1)]) (by decide) (Nat.le_of_ble_eq_true rfl) rfl ?_
  intro x Q_ hl_ hQ X
  subst hl_
  have hrr := hW.r
  have haa := hW.a
  refine jv_aload_n X dX2_drop_0 0 rfl ?_
  refine jv_callv (jv_runV (As := []) (rest := []) X dX2_drop_1 (c_X2_remembers hO hS) (lw_V q2096 q2098 qs39 q100 q2099) hd_X2_remembers md_M_o rfl (Nat.le_of_ble_eq_true rfl) (Nat.le_of_ble_eq_true rfl) (Nat.le_of_ble_eq_true rfl) (Nat.le_of_ble_eq_true rfl) rfl (Nat.le_of_ble_eq_true rfl)) (fun M_ h_ => ?_)
  obtain ⟨A1, rfl, h1⟩ := h_
  have hS1 : ∀ j, j < 237 → A1 0 j = nI (S j) := fun j hj => by rw [h1.1 0 (by decide)]; exact hS j hj
  refine jv_aload_n X dX2_drop_4 0 rfl ?_
  refine jm_getA X dX2_drop_5 0 (by decide) q2010 rfl ?_
  refine jv_iconst (v := nI 1) X dX2_drop_8 rfl ?_
  refine jm_ld (v := nI (S 1)) X hO dX2_drop_9 0 (by decide) (show 1 < 237 from (by omega)) (hS1 _ (by omega)) ?_
  refine jn_if_ne 16 X dX2_drop_10 (by decide) (by omega) (fun c10 => ?_) (fun c10 => ?_)
  · skip
    refine jv_aload_n X dX2_drop_16 0 rfl ?_
    refine jm_getA X dX2_drop_17 0 (by decide) q2010 rfl ?_
    refine jv_iconst (v := nI 1) X dX2_drop_20 rfl ?_
    refine jv_dup2 X dX2_drop_21 rfl rfl ?_
    refine jm_ld (v := nI (S 1)) X hO dX2_drop_22 0 (by decide) (show 1 < 237 from (by omega)) (hS1 _ (by omega)) ?_
    refine jv_iconst (v := nI 1) X dX2_drop_23 rfl ?_
    refine jv_isub (w := nI ((S 1) - 1)) X dX2_drop_24 (pk_sub (by omega)) ?_
    refine jm_st (v := nI ((S 1) - 1)) X hO dX2_drop_25 0 (by decide) (show 1 < 237 from (by omega)) ?_
    have hS2 := mdA_S hS1 1 ((S 1) - 1)
    refine jv_aload_n X dX2_drop_26 0 rfl ?_
    refine jv_aload_n X dX2_drop_27 0 rfl ?_
    refine jm_getA X dX2_drop_28 0 (by decide) q2010 rfl ?_
    refine jv_iconst (v := nI 1) X dX2_drop_31 rfl ?_
    refine jm_ld (v := nI ((S 1) - 1)) X hO dX2_drop_32 0 (by decide) (show 1 < 237 from (by omega)) ((hS2 _ (by omega)).trans (by unfold up2; rw [if_pos rfl])) ?_
    have hAi : ∀ i, i ≠ 0 → i ≠ 2 → mdA A1 0 1 (nI ((S 1) - 1)) i = A i := fun i hi0 hi2 => by first | (simp only [mdA_i hi0]; exact h1.1 i hi2) | exact h1.1 i hi2
    have hAr : ∀ j, j < 237 → mdA A1 0 1 (nI ((S 1) - 1)) 2 j = nI (S j) := fun j hj => by first | (simp only [mdA_i (show (2 : Nat) ≠ 0 by decide)]; exact h1.2 j hj) | exact h1.2 j hj
    refine jv_calli (jv_runV (As := [.int (nI ((S 1) - 1))]) (rest := []) X dX2_drop_33 (c_X2_changed hO (nI ((S 1) - 1)) (zk z) hk8 hz.kp (zH z) (fun i hi j hj => by rw [hAi 3 (by decide) (by decide)]; exact hz.hi i hi j hj) S hAr) (lw_V q2100 q2102 qs40 q100 q2103) hd_X2_changed md_M_o rfl (Nat.le_of_ble_eq_true rfl) (Nat.le_of_ble_eq_true rfl) (Nat.le_of_ble_eq_true rfl) (Nat.le_of_ble_eq_true rfl) rfl (Nat.le_of_ble_eq_true rfl)) (fun r3 M_ h_ => ?_)
    obtain ⟨F3, A3, rfl, h3⟩ := h_
    exact jv_iret (v := r3) X dX2_drop_36 rfl hQ (Nat.le_of_ble_eq_true rfl) (Nat.le_of_ble_eq_true rfl) ⟨_, _, rfl, (by rw [m_drop, if_neg c10]; exact ⟨h3.1, isZ.put hz hAi hS2 h3.2⟩)⟩
  · skip
    refine jv_bipush (v := (-3)) X dX2_drop_13 rfl ?_
    exact jv_iret (v := (-3)) X dX2_drop_15 rfl hQ (Nat.le_of_ble_eq_true rfl) (Nat.le_of_ble_eq_true rfl) ⟨_, _, rfl, (by rw [m_drop, if_pos c10]; exact ⟨rfl, hz.scr (fun _ _ => rfl) (fun k e => h1.1 k (by omega))⟩)⟩
theorem hd_X2_retract : jv_dd yX2_retract 0 := by unfold jv_dd; decide +kernel
set_option maxHeartbeats 4000000 in
theorem c_X2_retract {l : Launch} {G : jv_G} {o : md_O} {F : Nat → Int32} {A : Nat → Nat → Int32} {S : Nat → Nat} (hO : md_K G o) (hS : ∀ j, j < 237 → A 0 j = nI (S j)) {z : t_Z} (hz : isZ F A z) (hk8 : zk z ≤ 8) (hW : wfB S)   : jv_Ct G l yX2_retract cX2_retract 1 (some .int) 1 0 0 22 [.ref o.2.1] (md_M G o F A) (jv_qi G (fun r M' => ∃ F' A', M' = md_M G o F' A' ∧ r = (m_retract z S).1 ∧ isZ F' A' (m_retract z S).2)) := by
  refine jv_Ct.of (lv := [(0, .ref o.2.1)]) (by decide) (Nat.le_of_ble_eq_true rfl) rfl ?_
  intro x Q_ hl_ hQ X
  subst hl_
  have hrr := hW.r
  have haa := hW.a
  refine jv_aload_n X dX2_retract_0 0 rfl ?_
  refine jv_callv (jv_runV (As := []) (rest := []) X dX2_retract_1 (c_X2_remembers hO hS) (lw_V q2096 q2098 qs39 q100 q2099) hd_X2_remembers md_M_o rfl (Nat.le_of_ble_eq_true rfl) (Nat.le_of_ble_eq_true rfl) (Nat.le_of_ble_eq_true rfl) (Nat.le_of_ble_eq_true rfl) rfl (Nat.le_of_ble_eq_true rfl)) (fun M_ h_ => ?_)
  obtain ⟨A1, rfl, h1⟩ := h_
  have hS1 : ∀ j, j < 237 → A1 0 j = nI (S j) := fun j hj => by rw [h1.1 0 (by decide)]; exact hS j hj
  refine jv_aload_n X dX2_retract_4 0 rfl ?_
  refine jm_getA X dX2_retract_5 0 (by decide) q2010 rfl ?_
  refine jv_iconst (v := nI 2) X dX2_retract_8 rfl ?_
  refine jm_ld (v := nI (S 2)) X hO dX2_retract_9 0 (by decide) (show 2 < 237 from (by omega)) (hS1 _ (by omega)) ?_
  refine jn_if_ne 16 X dX2_retract_10 (by decide) (by omega) (fun c10 => ?_) (fun c10 => ?_)
  · skip
    refine jv_aload_n X dX2_retract_16 0 rfl ?_
    refine jm_getA X dX2_retract_17 0 (by decide) q2010 rfl ?_
    refine jv_iconst (v := nI 2) X dX2_retract_20 rfl ?_
    refine jv_dup2 X dX2_retract_21 rfl rfl ?_
    refine jm_ld (v := nI (S 2)) X hO dX2_retract_22 0 (by decide) (show 2 < 237 from (by omega)) (hS1 _ (by omega)) ?_
    refine jv_iconst (v := nI 1) X dX2_retract_23 rfl ?_
    refine jv_isub (w := nI ((S 2) - 1)) X dX2_retract_24 (pk_sub (by omega)) ?_
    refine jm_st (v := nI ((S 2) - 1)) X hO dX2_retract_25 0 (by decide) (show 2 < 237 from (by omega)) ?_
    have hS2 := mdA_S hS1 2 ((S 2) - 1)
    refine jv_aload_n X dX2_retract_26 0 rfl ?_
    refine jv_aload_n X dX2_retract_27 0 rfl ?_
    refine jm_getA X dX2_retract_28 0 (by decide) q2010 rfl ?_
    refine jv_iconst (v := nI 2) X dX2_retract_31 rfl ?_
    refine jm_ld (v := nI ((S 2) - 1)) X hO dX2_retract_32 0 (by decide) (show 2 < 237 from (by omega)) ((hS2 _ (by omega)).trans (by unfold up2; rw [if_pos rfl])) ?_
    have hAi : ∀ i, i ≠ 0 → i ≠ 2 → mdA A1 0 2 (nI ((S 2) - 1)) i = A i := fun i hi0 hi2 => by first | (simp only [mdA_i hi0]; exact h1.1 i hi2) | exact h1.1 i hi2
    have hAr : ∀ j, j < 237 → mdA A1 0 2 (nI ((S 2) - 1)) 2 j = nI (S j) := fun j hj => by first | (simp only [mdA_i (show (2 : Nat) ≠ 0 by decide)]; exact h1.2 j hj) | exact h1.2 j hj
    refine jv_calli (jv_runV (As := [.int (nI ((S 2) - 1))]) (rest := []) X dX2_retract_33 (c_X2_changed hO (nI ((S 2) - 1)) (zk z) hk8 hz.kp (zH z) (fun i hi j hj => by rw [hAi 3 (by decide) (by decide)]; exact hz.hi i hi j hj) S hAr) (lw_V q2100 q2102 qs40 q100 q2103) hd_X2_changed md_M_o rfl (Nat.le_of_ble_eq_true rfl) (Nat.le_of_ble_eq_true rfl) (Nat.le_of_ble_eq_true rfl) (Nat.le_of_ble_eq_true rfl) rfl (Nat.le_of_ble_eq_true rfl)) (fun r3 M_ h_ => ?_)
    obtain ⟨F3, A3, rfl, h3⟩ := h_
    exact jv_iret (v := r3) X dX2_retract_36 rfl hQ (Nat.le_of_ble_eq_true rfl) (Nat.le_of_ble_eq_true rfl) ⟨_, _, rfl, (by rw [m_retract, if_neg c10]; exact ⟨h3.1, isZ.put hz hAi hS2 h3.2⟩)⟩
  · skip
    refine jv_bipush (v := (-3)) X dX2_retract_13 rfl ?_
    exact jv_iret (v := (-3)) X dX2_retract_15 rfl hQ (Nat.le_of_ble_eq_true rfl) (Nat.le_of_ble_eq_true rfl) ⟨_, _, rfl, (by rw [m_retract, if_pos c10]; exact ⟨rfl, hz.scr (fun _ _ => rfl) (fun k e => h1.1 k (by omega))⟩)⟩
theorem hd_X2_assumption : jv_dd yX2_assumption 2 := by unfold jv_dd; decide +kernel
def m_assumption (S : Nat → Nat) (a : Int32) (b : Bool) : Int32 :=
  (if (v_in a (nI 0) ((nI (S 2)) - (nI 1))) = true then (nI (S ((225 + (2 * a.toNatClampNeg)) + (if b = true then 1 else 0)))) else (-1))
set_option maxHeartbeats 4000000 in
theorem c_X2_assumption {l : Launch} {G : jv_G} {o : md_O} {F : Nat → Int32} {A : Nat → Nat → Int32} {S : Nat → Nat} (hO : md_K G o) (hS : ∀ j, j < 237 → A 0 j = nI (S j)) (a : Int32) (b : Bool) (hW : wfB S) : jv_Ct G l yX2_assumption cX2_assumption 3 (some .int) 1 0 0 22 [.ref o.2.1, .int a, .int (bI b)] (md_M G o F A) (jv_qi G (jv_pi (m_assumption S a b) (md_M G o F A))) := by
  refine jv_Ct.of (lv := [(0, .ref o.2.1), (1, .int a), (2, .int (bI b))]) (by decide) (Nat.le_of_ble_eq_true rfl) rfl ?_
  intro x Q_ hl_ hQ X
  subst hl_
  refine jv_iload_n X dX2_assumption_0 1 rfl ?_
  refine jv_iconst (v := nI 0) X dX2_assumption_1 rfl ?_
  refine jv_aload_n X dX2_assumption_2 0 rfl ?_
  refine jm_getA X dX2_assumption_3 0 (by decide) q2010 rfl ?_
  refine jv_iconst (v := nI 2) X dX2_assumption_6 rfl ?_
  refine jm_ld (v := nI (S 2)) X hO dX2_assumption_7 0 (by decide) (show 2 < 237 from (by omega)) (hS _ (by omega)) ?_
  refine jv_iconst (v := nI 1) X dX2_assumption_8 rfl ?_
  refine jv_isub (w := (nI (S 2)) - (nI 1)) X dX2_assumption_9 rfl ?_
  refine jv_ask (jv_runS (As := [.int a, .int (nI 0), .int ((nI (S 2)) - (nI 1))]) (rest := []) X dX2_assumption_10 (c_X2_in a (nI 0) ((nI (S 2)) - (nI 1))) (lw_S q2112 q2113 q100 q2114) hd_X2_in (Nat.le_of_ble_eq_true rfl) (Nat.le_of_ble_eq_true rfl) (Nat.le_of_ble_eq_true rfl) (Nat.le_of_ble_eq_true rfl) rfl (Nat.le_of_ble_eq_true rfl)) ?_
  refine jb_if_eq 41 X dX2_assumption_13 (by decide) (fun c13 => ?_) (fun c13 => ?_)
  · skip
    refine jv_iconst (v := (-1)) X dX2_assumption_41 rfl ?_
    exact jv_iret (v := (-1)) X dX2_assumption_42 rfl hQ (Nat.le_of_ble_eq_true rfl) (Nat.le_of_ble_eq_true rfl) ⟨(((if_neg (Bool.eq_false_iff.mp c13)).symm)), rfl⟩
  · skip
    have hq_a : nI (a.toNatClampNeg) = a := (v_in_up (by have := hW.a; omega) c13).2
    refine jv_to (lv' := [(0, .ref o.2.1), (1, .int (nI a.toNatClampNeg)), (2, .int (bI b))]) (st' := []) (by rw [hq_a]) rfl ?_
    have ha0 := (v_in_up (by have := hW.a; omega) c13).1
    have ha6 := hW.a
    refine jv_aload_n X dX2_assumption_16 0 rfl ?_
    refine jm_getA X dX2_assumption_17 0 (by decide) q2010 rfl ?_
    refine jv_sipush (v := nI 225) X dX2_assumption_20 rfl ?_
    refine jv_iconst (v := nI 2) X dX2_assumption_23 rfl ?_
    refine jv_iload_n X dX2_assumption_24 1 rfl ?_
    refine jv_imul (w := nI (2 * a.toNatClampNeg)) X dX2_assumption_25 (pk_mul _ _) ?_
    refine jv_iadd (w := nI (225 + (2 * a.toNatClampNeg))) X dX2_assumption_26 (nI_add _ _) ?_
    refine jv_iload_n X dX2_assumption_27 2 rfl ?_
    have j36_1 : ∀ w_2 : Nat, w_2 = (if b = true then 1 else 0) → jv_J x G 3 Q_ (md_M G o F A) 0 0 36 [(0, .ref o.2.1), (1, .int (nI a.toNatClampNeg)), (2, .int (bI b))] [.int (nI w_2), .int (nI (225 + (2 * a.toNatClampNeg))), .ref (o.2.2 0)] := by
      intro w_2 e_w_2
      subst e_w_2
      refine jv_iadd (w := nI ((225 + (2 * a.toNatClampNeg)) + (if b = true then 1 else 0))) X dX2_assumption_36 (nI_add _ _) ?_
      refine jm_ld (v := nI (S ((225 + (2 * a.toNatClampNeg)) + (if b = true then 1 else 0)))) X hO dX2_assumption_37 0 (by decide) (show ((225 + (2 * a.toNatClampNeg)) + (if b = true then 1 else 0)) < 237 from (by split <;> omega)) (hS _ (by split <;> omega)) ?_
      refine jv_goto 42 X dX2_assumption_38 (by decide) ?_
      exact jv_iret (v := nI (S ((225 + (2 * a.toNatClampNeg)) + (if b = true then 1 else 0)))) X dX2_assumption_42 rfl hQ (Nat.le_of_ble_eq_true rfl) (Nat.le_of_ble_eq_true rfl) ⟨(((if_pos c13).symm)), rfl⟩
    refine jb_if_eq 35 X dX2_assumption_28 (by decide) (fun c28 => ?_) (fun c28 => ?_)
    · skip
      refine jv_iconst (v := nI 0) X dX2_assumption_35 rfl ?_
      exact j36_1 _ (if_neg (Bool.eq_false_iff.mp c28)).symm
    · skip
      refine jv_iconst (v := nI 1) X dX2_assumption_31 rfl ?_
      refine jv_goto 36 X dX2_assumption_32 (by decide) ?_
      exact j36_1 _ (if_pos c28).symm
