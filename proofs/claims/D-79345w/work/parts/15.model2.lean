/-! reference, second -/
set_option maxRecDepth 100000
theorem hd_X2_ofVersion : jv_dd yX2_ofVersion 3 := by unfold jv_dd; decide +kernel
def m_ofVersion (S : Nat → Nat) (p v what : Int32) : Int32 :=
  (if (v_isVersion S p v) = true then (if what = nI 0 then (nI ((v_of S p.toNatClampNeg (2 + v.toNatClampNeg)) / 100)) else (if what = nI 1 then (nI (((v_of S p.toNatClampNeg (2 + v.toNatClampNeg)) / 10) % 10)) else (if what = nI 2 then (nI ((v_of S p.toNatClampNeg (2 + v.toNatClampNeg)) % 10)) else (if what = nI 3 then (nI (bef S p.toNatClampNeg v.toNatClampNeg)) else (if what = nI 4 then (nI (rls S p.toNatClampNeg v.toNatClampNeg)) else (-2)))))) else (-1))
set_option maxHeartbeats 4000000 in
theorem c_X2_ofVersion {l : Launch} {G : jv_G} {o : md_O} {F : Nat → Int32} {A : Nat → Nat → Int32} {S : Nat → Nat} (hO : md_K G o) (hS : ∀ j, j < 237 → A 0 j = nI (S j)) (p : Int32) (v : Int32) (what : Int32) (hW : wfB S) : jv_Ct G l yX2_ofVersion cX2_ofVersion 5 (some .int) 3 0 0 65 [.ref o.2.1, .int p, .int v, .int what] (md_M G o F A) (jv_qi G (jv_pi (m_ofVersion S p v what) (md_M G o F A))) := by
  refine jv_Ct.of (lv := [(0, .ref o.2.1), (1, .int p), (2, .int v), (3, .int what)]) (by decide) (Nat.le_of_ble_eq_true rfl) rfl ?_
  intro x Q_ hl_ hQ X
  subst hl_
  refine jv_aload_n X dX2_ofVersion_0 0 rfl ?_
  refine jv_iload_n X dX2_ofVersion_1 1 rfl ?_
  refine jv_iload_n X dX2_ofVersion_2 2 rfl ?_
  refine jv_ask (jv_runV (As := [.int p, .int v]) (rest := []) X dX2_ofVersion_3 (c_X2_isVersion hO hS p v hW) (lw_V q2127 q2129 qs43 q100 q2130) hd_X2_isVersion md_M_o rfl (Nat.le_of_ble_eq_true rfl) (Nat.le_of_ble_eq_true rfl) (Nat.le_of_ble_eq_true rfl) (Nat.le_of_ble_eq_true rfl) rfl (Nat.le_of_ble_eq_true rfl)) ?_
  refine jb_if_ne 11 X dX2_ofVersion_6 (by decide) (fun c6 => ?_) (fun c6 => ?_)
  · skip
    have hq_p : nI (p.toNatClampNeg) = p := (v_isPack_n hW (v_isVersion_p c6)).2
    refine jv_to (lv' := [(0, .ref o.2.1), (1, .int (nI p.toNatClampNeg)), (2, .int v), (3, .int what)]) (st' := []) (by rw [hq_p]) rfl ?_
    have hq_v : nI (v.toNatClampNeg) = v := (v_isVersion_v hW c6).2
    refine jv_to (lv' := [(0, .ref o.2.1), (1, .int (nI p.toNatClampNeg)), (2, .int (nI v.toNatClampNeg)), (3, .int what)]) (st' := []) (by rw [hq_v]) rfl ?_
    have hp6 := Nat.lt_of_lt_of_le (v_isPack_n hW (v_isVersion_p c6)).1 hW.p
    have hv5 := Nat.lt_of_lt_of_le (v_isVersion_v hW c6).1 (hW.nv hp6)
    have hvr := hW.vr hp6 hv5
    refine jv_aload_n X dX2_ofVersion_11 0 rfl ?_
    refine jv_iload_n X dX2_ofVersion_12 1 rfl ?_
    refine jv_iconst (v := nI 2) X dX2_ofVersion_13 rfl ?_
    refine jv_iload_n X dX2_ofVersion_14 2 rfl ?_
    refine jv_iadd (w := nI (2 + v.toNatClampNeg)) X dX2_ofVersion_15 (nI_add _ _) ?_
    refine jv_ask (jv_runV (As := [.int (nI p.toNatClampNeg), .int (nI (2 + v.toNatClampNeg))]) (rest := []) X dX2_ofVersion_16 (c_X2_of hO hS p.toNatClampNeg (2 + v.toNatClampNeg) (by omega) (by omega)) (lw_V q2115 q2117 qs42 q100 q2118) hd_X2_of md_M_o rfl (Nat.le_of_ble_eq_true rfl) (Nat.le_of_ble_eq_true rfl) (Nat.le_of_ble_eq_true rfl) (Nat.le_of_ble_eq_true rfl) rfl (Nat.le_of_ble_eq_true rfl)) ?_
    refine jv_istore (lv' := [(4, .int (nI (v_of S p.toNatClampNeg (2 + v.toNatClampNeg)))), (0, .ref o.2.1), (1, .int (nI p.toNatClampNeg)), (2, .int (nI v.toNatClampNeg)), (3, .int what)]) X dX2_ofVersion_19 (by decide) rfl ?_
    refine jv_iload_n X dX2_ofVersion_21 4 rfl ?_
    by_cases c22_0 : what = nI 0
    · skip
      refine jv_tableIn 56 X dX2_ofVersion_22 (by rw [c22_0]; decide) (by rw [c22_0]; decide) (by rw [c22_0]; rfl) (by decide) ?_
      subst c22_0
      refine jv_iload X dX2_ofVersion_56 0 rfl ?_
      refine jv_bipush (v := nI 100) X dX2_ofVersion_58 rfl ?_
      refine jv_idiv (w := nI ((v_of S p.toNatClampNeg (2 + v.toNatClampNeg)) / 100)) X dX2_ofVersion_60 (ni_nz (by decide) (by decide)) (pk_div (by omega) (by decide) (by decide)) ?_
      exact jv_iret (v := nI ((v_of S p.toNatClampNeg (2 + v.toNatClampNeg)) / 100)) X dX2_ofVersion_61 rfl hQ (Nat.le_of_ble_eq_true rfl) (Nat.le_of_ble_eq_true rfl) ⟨((((if_pos c6).trans (if_pos rfl)).symm)), rfl⟩
    · skip
      by_cases c22_1 : what = nI 1
      · skip
        refine jv_tableIn 62 X dX2_ofVersion_22 (by rw [c22_1]; decide) (by rw [c22_1]; decide) (by rw [c22_1]; rfl) (by decide) ?_
        subst c22_1
        refine jv_iload X dX2_ofVersion_62 0 rfl ?_
        refine jv_bipush (v := nI 10) X dX2_ofVersion_64 rfl ?_
        refine jv_idiv (w := nI ((v_of S p.toNatClampNeg (2 + v.toNatClampNeg)) / 10)) X dX2_ofVersion_66 (ni_nz (by decide) (by decide)) (pk_div (by omega) (by decide) (by decide)) ?_
        refine jv_bipush (v := nI 10) X dX2_ofVersion_67 rfl ?_
        refine jv_irem (w := nI (((v_of S p.toNatClampNeg (2 + v.toNatClampNeg)) / 10) % 10)) X dX2_ofVersion_69 (ni_nz (by decide) (by decide)) (pk_rem (by omega) (by decide) (by decide)) ?_
        exact jv_iret (v := nI (((v_of S p.toNatClampNeg (2 + v.toNatClampNeg)) / 10) % 10)) X dX2_ofVersion_70 rfl hQ (Nat.le_of_ble_eq_true rfl) (Nat.le_of_ble_eq_true rfl) ⟨(((((if_pos c6).trans (if_neg c22_0)).trans (if_pos rfl)).symm)), rfl⟩
      · skip
        by_cases c22_2 : what = nI 2
        · skip
          refine jv_tableIn 71 X dX2_ofVersion_22 (by rw [c22_2]; decide) (by rw [c22_2]; decide) (by rw [c22_2]; rfl) (by decide) ?_
          subst c22_2
          refine jv_iload X dX2_ofVersion_71 0 rfl ?_
          refine jv_bipush (v := nI 10) X dX2_ofVersion_73 rfl ?_
          refine jv_irem (w := nI ((v_of S p.toNatClampNeg (2 + v.toNatClampNeg)) % 10)) X dX2_ofVersion_75 (ni_nz (by decide) (by decide)) (pk_rem (by omega) (by decide) (by decide)) ?_
          exact jv_iret (v := nI ((v_of S p.toNatClampNeg (2 + v.toNatClampNeg)) % 10)) X dX2_ofVersion_76 rfl hQ (Nat.le_of_ble_eq_true rfl) (Nat.le_of_ble_eq_true rfl) ⟨((((((if_pos c6).trans (if_neg c22_0)).trans (if_neg c22_1)).trans (if_pos rfl)).symm)), rfl⟩
        · skip
          by_cases c22_3 : what = nI 3
          · skip
            refine jv_tableIn 77 X dX2_ofVersion_22 (by rw [c22_3]; decide) (by rw [c22_3]; decide) (by rw [c22_3]; rfl) (by decide) ?_
            subst c22_3
            refine jv_aload_n X dX2_ofVersion_77 1 rfl ?_
            refine jv_iload_n X dX2_ofVersion_78 2 rfl ?_
            refine jv_iload_n X dX2_ofVersion_79 3 rfl ?_
            refine jv_ask (jv_runV (As := [.int (nI p.toNatClampNeg), .int (nI v.toNatClampNeg)]) (rest := []) X dX2_ofVersion_80 (c_X2_beforeOf hO hS p.toNatClampNeg v.toNatClampNeg (by omega) (by omega) hW) (lw_V q2131 q2133 qs44 q100 q2134) hd_X2_beforeOf md_M_o rfl (Nat.le_of_ble_eq_true rfl) (Nat.le_of_ble_eq_true rfl) (Nat.le_of_ble_eq_true rfl) (Nat.le_of_ble_eq_true rfl) rfl (Nat.le_of_ble_eq_true rfl)) ?_
            exact jv_iret (v := nI (bef S p.toNatClampNeg v.toNatClampNeg)) X dX2_ofVersion_83 rfl hQ (Nat.le_of_ble_eq_true rfl) (Nat.le_of_ble_eq_true rfl) ⟨(((((((if_pos c6).trans (if_neg c22_0)).trans (if_neg c22_1)).trans (if_neg c22_2)).trans (if_pos rfl)).symm)), rfl⟩
          · skip
            by_cases c22_4 : what = nI 4
            · skip
              refine jv_tableIn 84 X dX2_ofVersion_22 (by rw [c22_4]; decide) (by rw [c22_4]; decide) (by rw [c22_4]; rfl) (by decide) ?_
              subst c22_4
              refine jv_aload_n X dX2_ofVersion_84 1 rfl ?_
              refine jv_iload_n X dX2_ofVersion_85 2 rfl ?_
              refine jv_iload_n X dX2_ofVersion_86 3 rfl ?_
              refine jv_ask (jv_runV (As := [.int (nI p.toNatClampNeg), .int (nI v.toNatClampNeg)]) (rest := []) X dX2_ofVersion_87 (c_X2_rulesOf hO hS p.toNatClampNeg v.toNatClampNeg (by omega) (by omega) hW) (lw_V q2138 q2140 qs45 q100 q2141) hd_X2_rulesOf md_M_o rfl (Nat.le_of_ble_eq_true rfl) (Nat.le_of_ble_eq_true rfl) (Nat.le_of_ble_eq_true rfl) (Nat.le_of_ble_eq_true rfl) rfl (Nat.le_of_ble_eq_true rfl)) ?_
              exact jv_iret (v := nI (rls S p.toNatClampNeg v.toNatClampNeg)) X dX2_ofVersion_90 rfl hQ (Nat.le_of_ble_eq_true rfl) (Nat.le_of_ble_eq_true rfl) ⟨((((((((if_pos c6).trans (if_neg c22_0)).trans (if_neg c22_1)).trans (if_neg c22_2)).trans (if_neg c22_3)).trans (if_pos rfl)).symm)), rfl⟩
            · skip
              refine jv_tableOut 91 X dX2_ofVersion_22 (jt_out5 c22_0 c22_1 c22_2 c22_3 c22_4) (by decide) ?_
              refine jv_bipush (v := (-2)) X dX2_ofVersion_91 rfl ?_
              exact jv_iret (v := (-2)) X dX2_ofVersion_93 rfl hQ (Nat.le_of_ble_eq_true rfl) (Nat.le_of_ble_eq_true rfl) ⟨((((((((if_pos c6).trans (if_neg c22_0)).trans (if_neg c22_1)).trans (if_neg c22_2)).trans (if_neg c22_3)).trans (if_neg c22_4)).symm)), rfl⟩
  · skip
    refine jv_iconst (v := (-1)) X dX2_ofVersion_9 rfl ?_
    exact jv_iret (v := (-1)) X dX2_ofVersion_10 rfl hQ (Nat.le_of_ble_eq_true rfl) (Nat.le_of_ble_eq_true rfl) ⟨(((if_neg (Bool.eq_false_iff.mp c6)).symm)), rfl⟩
theorem hd_X2_covers : jv_dd yX2_covers 2 := by unfold jv_dd; decide +kernel
def m_covers (S : Nat → Nat) (p r : Int32) : Int32 :=
  (if (v_isPack S p) = true then (if (v_isRange r) = true then (nI (cov S p.toNatClampNeg r.toNatClampNeg)) else (-2)) else (-1))
set_option maxHeartbeats 4000000 in
theorem c_X2_covers {l : Launch} {G : jv_G} {o : md_O} {F : Nat → Int32} {A : Nat → Nat → Int32} {S : Nat → Nat} (hO : md_K G o) (hS : ∀ j, j < 237 → A 0 j = nI (S j)) (p : Int32) (r : Int32) (hW : wfB S) : jv_Ct G l yX2_covers cX2_covers 3 (some .int) 3 0 0 73 [.ref o.2.1, .int p, .int r] (md_M G o F A) (jv_qi G (jv_pi (m_covers S p r) (md_M G o F A))) := by
  refine jv_Ct.of (lv := [(0, .ref o.2.1), (1, .int p), (2, .int r)]) (by decide) (Nat.le_of_ble_eq_true rfl) rfl ?_
  intro x Q_ hl_ hQ X
  subst hl_
  refine jv_aload_n X dX2_covers_0 0 rfl ?_
  refine jv_iload_n X dX2_covers_1 1 rfl ?_
  refine jv_ask (jv_runV (As := [.int p]) (rest := []) X dX2_covers_2 (c_X2_isPack hO hS p) (lw_V q2108 q2110 qs41 q100 q2111) hd_X2_isPack md_M_o rfl (Nat.le_of_ble_eq_true rfl) (Nat.le_of_ble_eq_true rfl) (Nat.le_of_ble_eq_true rfl) (Nat.le_of_ble_eq_true rfl) rfl (Nat.le_of_ble_eq_true rfl)) ?_
  refine jb_if_ne 12 X dX2_covers_5 (by decide) (fun c5 => ?_) (fun c5 => ?_)
  · skip
    refine jv_iload_n X dX2_covers_12 2 rfl ?_
    refine jv_ask (jv_runS (As := [.int r]) (rest := []) X dX2_covers_13 (c_X2_isRange r) (lw_S q2150 q2151 q100 q2152) hd_X2_isRange (Nat.le_of_ble_eq_true rfl) (Nat.le_of_ble_eq_true rfl) (Nat.le_of_ble_eq_true rfl) (Nat.le_of_ble_eq_true rfl) rfl (Nat.le_of_ble_eq_true rfl)) ?_
    refine jb_if_eq 28 X dX2_covers_16 (by decide) (fun c16 => ?_) (fun c16 => ?_)
    · skip
      refine jv_bipush (v := (-2)) X dX2_covers_28 rfl ?_
      exact jv_iret (v := (-2)) X dX2_covers_30 rfl hQ (Nat.le_of_ble_eq_true rfl) (Nat.le_of_ble_eq_true rfl) ⟨((((if_pos c5).trans (if_neg (Bool.eq_false_iff.mp c16))).symm)), rfl⟩
    · skip
      have hq_p : nI (p.toNatClampNeg) = p := (v_isPack_n hW c5).2
      refine jv_to (lv' := [(0, .ref o.2.1), (1, .int (nI p.toNatClampNeg)), (2, .int r)]) (st' := []) (by rw [hq_p]) rfl ?_
      have hq_r : nI (r.toNatClampNeg) = r := (v_isRange_n c16).2
      refine jv_to (lv' := [(0, .ref o.2.1), (1, .int (nI p.toNatClampNeg)), (2, .int (nI r.toNatClampNeg))]) (st' := []) (by rw [hq_r]) rfl ?_
      have hp6 := Nat.lt_of_lt_of_le (v_isPack_n hW c5).1 hW.p
      have hr6 := (v_isRange_n c16).1
      refine jv_aload_n X dX2_covers_19 0 rfl ?_
      refine jv_iload_n X dX2_covers_20 1 rfl ?_
      refine jv_iload_n X dX2_covers_21 2 rfl ?_
      refine jv_ask (jv_runV (As := [.int (nI p.toNatClampNeg), .int (nI r.toNatClampNeg)]) (rest := []) X dX2_covers_22 (c_X2_coversOf hO hS p.toNatClampNeg r.toNatClampNeg (by omega) (by omega) hW) (lw_V q2153 q2155 qs47 q100 q2156) hd_X2_coversOf md_M_o rfl (Nat.le_of_ble_eq_true rfl) (Nat.le_of_ble_eq_true rfl) (Nat.le_of_ble_eq_true rfl) (Nat.le_of_ble_eq_true rfl) rfl (Nat.le_of_ble_eq_true rfl)) ?_
      refine jv_goto 30 X dX2_covers_25 (by decide) ?_
      exact jv_iret (v := nI (cov S p.toNatClampNeg r.toNatClampNeg)) X dX2_covers_30 rfl hQ (Nat.le_of_ble_eq_true rfl) (Nat.le_of_ble_eq_true rfl) ⟨((((if_pos c5).trans (if_pos c16)).symm)), rfl⟩
  · skip
    refine jv_iconst (v := (-1)) X dX2_covers_8 rfl ?_
    refine jv_goto 30 X dX2_covers_9 (by decide) ?_
    exact jv_iret (v := (-1)) X dX2_covers_30 rfl hQ (Nat.le_of_ble_eq_true rfl) (Nat.le_of_ble_eq_true rfl) ⟨(((if_neg (Bool.eq_false_iff.mp c5)).symm)), rfl⟩
def m_latest (S : Nat → Nat) (p r : Int32) : Int32 := if v_isPack S p = true then (if v_isRange r = true then latN S p.toNatClampNeg r.toNatClampNeg (v_of S p.toNatClampNeg 0) else (-2)) else (-1)
theorem hd_X2_latest : jv_dd yX2_latest 2 := by unfold jv_dd; decide +kernel
set_option maxHeartbeats 4000000 in
theorem c_X2_latest {l : Launch} {G : jv_G} {o : md_O} {F : Nat → Int32} {A : Nat → Nat → Int32} {S : Nat → Nat} (hO : md_K G o) (hS : ∀ j, j < 237 → A 0 j = nI (S j)) (p : Int32) (r : Int32) (hW : wfB S) : jv_Ct G l yX2_latest cX2_latest 6 (some .int) 3 0 0 73 [.ref o.2.1, .int p, .int r] (md_M G o F A) (jv_qi G (jv_pi (m_latest S p r) (md_M G o F A))) := by
  refine jv_Ct.of (lv := [(0, .ref o.2.1), (1, .int p), (2, .int r)]) (by decide) (Nat.le_of_ble_eq_true rfl) rfl ?_
  intro x Q_ hl_ hQ X
  subst hl_
  refine jv_aload_n X dX2_latest_0 0 rfl ?_
  refine jv_iload_n X dX2_latest_1 1 rfl ?_
  refine jv_ask (jv_runV (As := [.int p]) (rest := []) X dX2_latest_2 (c_X2_isPack hO hS p) (lw_V q2108 q2110 qs41 q100 q2111) hd_X2_isPack md_M_o rfl (Nat.le_of_ble_eq_true rfl) (Nat.le_of_ble_eq_true rfl) (Nat.le_of_ble_eq_true rfl) (Nat.le_of_ble_eq_true rfl) rfl (Nat.le_of_ble_eq_true rfl)) ?_
  refine jb_if_ne 10 X dX2_latest_5 (by decide) (fun c5 => ?_) (fun c5 => ?_)
  · skip
    refine jv_iload_n X dX2_latest_10 2 rfl ?_
    refine jv_ask (jv_runS (As := [.int r]) (rest := []) X dX2_latest_11 (c_X2_isRange r) (lw_S q2150 q2151 q100 q2152) hd_X2_isRange (Nat.le_of_ble_eq_true rfl) (Nat.le_of_ble_eq_true rfl) (Nat.le_of_ble_eq_true rfl) (Nat.le_of_ble_eq_true rfl) rfl (Nat.le_of_ble_eq_true rfl)) ?_
    refine jb_if_ne 20 X dX2_latest_14 (by decide) (fun c14 => ?_) (fun c14 => ?_)
    · skip
      have hq_p : nI (p.toNatClampNeg) = p := (v_isPack_n hW c5).2
      refine jv_to (lv' := [(0, .ref o.2.1), (1, .int (nI p.toNatClampNeg)), (2, .int r)]) (st' := []) (by rw [hq_p]) rfl ?_
      have hq_r : nI (r.toNatClampNeg) = r := (v_isRange_n c14).2
      refine jv_to (lv' := [(0, .ref o.2.1), (1, .int (nI p.toNatClampNeg)), (2, .int (nI r.toNatClampNeg))]) (st' := []) (by rw [hq_r]) rfl ?_
      have hp6 := Nat.lt_of_lt_of_le (v_isPack_n hW c5).1 hW.p
      have hr6 := (v_isRange_n c14).1
      have hnv := hW.nv hp6
      have hcv := cov_lt hW hp6 r.toNatClampNeg
      refine jv_bipush (v := (-5)) X dX2_latest_20 rfl ?_
      refine jv_istore_n (lv' := [(3, .int (-5)), (0, .ref o.2.1), (1, .int (nI p.toNatClampNeg)), (2, .int (nI r.toNatClampNeg))]) X dX2_latest_22 rfl (by decide) rfl ?_
      refine jv_aload_n X dX2_latest_23 1 rfl ?_
      refine jv_iload_n X dX2_latest_24 2 rfl ?_
      refine jv_iload_n X dX2_latest_25 3 rfl ?_
      refine jv_ask (jv_runV (As := [.int (nI p.toNatClampNeg), .int (nI r.toNatClampNeg)]) (rest := []) X dX2_latest_26 (c_X2_coversOf hO hS p.toNatClampNeg r.toNatClampNeg (by omega) (by omega) hW) (lw_V q2153 q2155 qs47 q100 q2156) hd_X2_coversOf md_M_o rfl (Nat.le_of_ble_eq_true rfl) (Nat.le_of_ble_eq_true rfl) (Nat.le_of_ble_eq_true rfl) (Nat.le_of_ble_eq_true rfl) rfl (Nat.le_of_ble_eq_true rfl)) ?_
      refine jv_istore (lv' := [(4, .int (nI (cov S p.toNatClampNeg r.toNatClampNeg))), (3, .int (-5)), (0, .ref o.2.1), (1, .int (nI p.toNatClampNeg)), (2, .int (nI r.toNatClampNeg))]) X dX2_latest_29 (by decide) rfl ?_
      refine jv_iconst (v := nI 0) X dX2_latest_31 rfl ?_
      refine jv_istore (lv' := [(5, .int (nI 0)), (4, .int (nI (cov S p.toNatClampNeg r.toNatClampNeg))), (3, .int (-5)), (0, .ref o.2.1), (1, .int (nI p.toNatClampNeg)), (2, .int (nI r.toNatClampNeg))]) X dX2_latest_32 (by decide) rfl ?_
      have lp34_1 : ∀ (d_34 : Nat) (v : Nat) (b : Int32), v ≤ v_of S p.toNatClampNeg 0 → b = latN S p.toNatClampNeg r.toNatClampNeg v → v_of S p.toNatClampNeg 0 - v < d_34 → jv_J x G 6 Q_ (md_M G o F A) 0 0 34 [(0, .ref o.2.1), (1, .int (nI p.toNatClampNeg)), (2, .int (nI r.toNatClampNeg)), (3, .int b), (4, .int (nI (cov S p.toNatClampNeg r.toNatClampNeg))), (5, .int (nI v))] [] := by
        intro d_34
        induction d_34 with
        | zero => intro v b hv hb hm_34; exact absurd hm_34 (Nat.not_lt_zero _)
        | succ d_34 ih_34 =>
          intro v b hv hb hm_34
          refine jv_iload X dX2_latest_34 5 rfl ?_
          refine jv_aload_n X dX2_latest_36 0 rfl ?_
          refine jv_iload_n X dX2_latest_37 1 rfl ?_
          refine jv_iconst (v := nI 0) X dX2_latest_38 rfl ?_
          refine jv_ask (jv_runV (As := [.int (nI p.toNatClampNeg), .int (nI 0)]) (rest := [.int (nI v)]) X dX2_latest_39 (c_X2_of hO hS p.toNatClampNeg 0 (by omega) (by omega)) (lw_V q2115 q2117 qs42 q100 q2118) hd_X2_of md_M_o rfl (Nat.le_of_ble_eq_true rfl) (Nat.le_of_ble_eq_true rfl) (Nat.le_of_ble_eq_true rfl) (Nat.le_of_ble_eq_true rfl) rfl (Nat.le_of_ble_eq_true rfl)) ?_
          refine jn_icmp_ge 87 X dX2_latest_42 (by decide) (by omega) (by omega) (fun c42 => ?_) (fun c42 => ?_)
          · skip
            refine jv_iload_n X dX2_latest_87 3 rfl ?_
            exact jv_iret (v := b) X dX2_latest_88 rfl hQ (Nat.le_of_ble_eq_true rfl) (Nat.le_of_ble_eq_true rfl) ⟨(by unfold m_latest; rw [if_pos c5, if_pos c14, hb, show v = v_of S p.toNatClampNeg 0 by omega]), rfl⟩
          · skip
            refine jv_iload X dX2_latest_45 4 rfl ?_
            refine jv_iload X dX2_latest_47 5 rfl ?_
            refine jv_ishr (w := nI ((cov S p.toNatClampNeg r.toNatClampNeg) / 2 ^ v)) X dX2_latest_49 (ni_shr (by omega) (by omega)) ?_
            refine jv_iconst (v := nI 1) X dX2_latest_50 rfl ?_
            refine jv_iand (w := nI (((cov S p.toNatClampNeg r.toNatClampNeg) / 2 ^ v) &&& 1)) X dX2_latest_51 (ni_and _ _) ?_
            refine jv_iconst (v := nI 1) X dX2_latest_52 rfl ?_
            refine jn_icmp_ne 81 X dX2_latest_53 (by decide) (Nat.lt_of_le_of_lt Nat.and_le_right (by decide)) (by decide) (fun c53 => ?_) (fun c53 => ?_)
            · skip
              refine jv_iinc (v := nI (v + 1)) (lv' := [(5, .int (nI (v + 1))), (0, .ref o.2.1), (1, .int (nI p.toNatClampNeg)), (2, .int (nI r.toNatClampNeg)), (3, .int b), (4, .int (nI (cov S p.toNatClampNeg r.toNatClampNeg)))]) X dX2_latest_81 5 rfl (nI_1 _) (by decide) rfl ?_
              refine jv_goto 34 X dX2_latest_84 (by decide) ?_
              refine jv_lv (lv' := [(0, .ref o.2.1), (1, .int (nI p.toNatClampNeg)), (2, .int (nI r.toNatClampNeg)), (3, .int b), (4, .int (nI (cov S p.toNatClampNeg r.toNatClampNeg))), (5, .int (nI (v + 1)))]) [1, 2, 3, 4, 5, 0] rfl ?_
              exact ih_34 (v + 1) b (by omega) (by rw [latN, ← hb, if_neg c53]) (by omega)
            · skip
              refine jv_iload_n X dX2_latest_56 3 rfl ?_
              refine jv_bipush (v := (-5)) X dX2_latest_57 rfl ?_
              refine jv_icmp_eq 78 X dX2_latest_59 (by decide) (fun c59 => ?_) (fun c59 => ?_)
              · skip
                refine jv_iload X dX2_latest_78 5 rfl ?_
                refine jv_istore_n (lv' := [(3, .int (nI v)), (0, .ref o.2.1), (1, .int (nI p.toNatClampNeg)), (2, .int (nI r.toNatClampNeg)), (4, .int (nI (cov S p.toNatClampNeg r.toNatClampNeg))), (5, .int (nI v))]) X dX2_latest_80 rfl (by decide) rfl ?_
                refine jv_iinc (v := nI (v + 1)) (lv' := [(5, .int (nI (v + 1))), (3, .int (nI v)), (0, .ref o.2.1), (1, .int (nI p.toNatClampNeg)), (2, .int (nI r.toNatClampNeg)), (4, .int (nI (cov S p.toNatClampNeg r.toNatClampNeg)))]) X dX2_latest_81 5 rfl (nI_1 _) (by decide) rfl ?_
                refine jv_goto 34 X dX2_latest_84 (by decide) ?_
                refine jv_lv (lv' := [(0, .ref o.2.1), (1, .int (nI p.toNatClampNeg)), (2, .int (nI r.toNatClampNeg)), (3, .int (nI v)), (4, .int (nI (cov S p.toNatClampNeg r.toNatClampNeg))), (5, .int (nI (v + 1)))]) [2, 3, 4, 1, 5, 0] rfl ?_
                exact ih_34 (v + 1) (nI v) (by omega) (by rw [latN, ← hb, if_pos c53, if_pos c59]) (by omega)
              · skip
                have hq_b : nI (b.toNatClampNeg) = b := (latN_n (by omega) hb c59).2
                refine jv_to (lv' := [(0, .ref o.2.1), (1, .int (nI p.toNatClampNeg)), (2, .int (nI r.toNatClampNeg)), (3, .int (nI b.toNatClampNeg)), (4, .int (nI (cov S p.toNatClampNeg r.toNatClampNeg))), (5, .int (nI v))]) (st' := []) (by rw [hq_b]) rfl ?_
                have hbv := (latN_n (by omega) hb c59).1
                have hb1 := bef_le hW hp6 v
                have hb2 := bef_le hW hp6 b.toNatClampNeg
                refine jv_aload_n X dX2_latest_62 0 rfl ?_
                refine jv_iload_n X dX2_latest_63 1 rfl ?_
                refine jv_iload X dX2_latest_64 5 rfl ?_
                refine jv_ask (jv_runV (As := [.int (nI p.toNatClampNeg), .int (nI v)]) (rest := []) X dX2_latest_66 (c_X2_beforeOf hO hS p.toNatClampNeg v (by omega) (by omega) hW) (lw_V q2131 q2133 qs44 q100 q2134) hd_X2_beforeOf md_M_o rfl (Nat.le_of_ble_eq_true rfl) (Nat.le_of_ble_eq_true rfl) (Nat.le_of_ble_eq_true rfl) (Nat.le_of_ble_eq_true rfl) rfl (Nat.le_of_ble_eq_true rfl)) ?_
                refine jv_aload_n X dX2_latest_69 0 rfl ?_
                refine jv_iload_n X dX2_latest_70 1 rfl ?_
                refine jv_iload_n X dX2_latest_71 3 rfl ?_
                refine jv_ask (jv_runV (As := [.int (nI p.toNatClampNeg), .int (nI b.toNatClampNeg)]) (rest := [.int (nI (bef S p.toNatClampNeg v))]) X dX2_latest_72 (c_X2_beforeOf hO hS p.toNatClampNeg b.toNatClampNeg (by omega) (by omega) hW) (lw_V q2131 q2133 qs44 q100 q2134) hd_X2_beforeOf md_M_o rfl (Nat.le_of_ble_eq_true rfl) (Nat.le_of_ble_eq_true rfl) (Nat.le_of_ble_eq_true rfl) (Nat.le_of_ble_eq_true rfl) rfl (Nat.le_of_ble_eq_true rfl)) ?_
                refine jn_icmp_le 81 X dX2_latest_75 (by decide) (by omega) (by omega) (fun c75 => ?_) (fun c75 => ?_)
                · skip
                  refine jv_iinc (v := nI (v + 1)) (lv' := [(5, .int (nI (v + 1))), (0, .ref o.2.1), (1, .int (nI p.toNatClampNeg)), (2, .int (nI r.toNatClampNeg)), (3, .int (nI b.toNatClampNeg)), (4, .int (nI (cov S p.toNatClampNeg r.toNatClampNeg)))]) X dX2_latest_81 5 rfl (nI_1 _) (by decide) rfl ?_
                  refine jv_goto 34 X dX2_latest_84 (by decide) ?_
                  refine jv_lv (lv' := [(0, .ref o.2.1), (1, .int (nI p.toNatClampNeg)), (2, .int (nI r.toNatClampNeg)), (3, .int (nI b.toNatClampNeg)), (4, .int (nI (cov S p.toNatClampNeg r.toNatClampNeg))), (5, .int (nI (v + 1)))]) [1, 2, 3, 4, 5, 0] rfl ?_
                  exact ih_34 (v + 1) (nI b.toNatClampNeg) (by omega) (by rw [latN, ← hb, if_pos c53, if_neg c59, if_pos c75, hq_b]) (by omega)
                · skip
                  refine jv_iload X dX2_latest_78 5 rfl ?_
                  refine jv_istore_n (lv' := [(3, .int (nI v)), (0, .ref o.2.1), (1, .int (nI p.toNatClampNeg)), (2, .int (nI r.toNatClampNeg)), (4, .int (nI (cov S p.toNatClampNeg r.toNatClampNeg))), (5, .int (nI v))]) X dX2_latest_80 rfl (by decide) rfl ?_
                  refine jv_iinc (v := nI (v + 1)) (lv' := [(5, .int (nI (v + 1))), (3, .int (nI v)), (0, .ref o.2.1), (1, .int (nI p.toNatClampNeg)), (2, .int (nI r.toNatClampNeg)), (4, .int (nI (cov S p.toNatClampNeg r.toNatClampNeg)))]) X dX2_latest_81 5 rfl (nI_1 _) (by decide) rfl ?_
                  refine jv_goto 34 X dX2_latest_84 (by decide) ?_
                  refine jv_lv (lv' := [(0, .ref o.2.1), (1, .int (nI p.toNatClampNeg)), (2, .int (nI r.toNatClampNeg)), (3, .int (nI v)), (4, .int (nI (cov S p.toNatClampNeg r.toNatClampNeg))), (5, .int (nI (v + 1)))]) [2, 3, 4, 1, 5, 0] rfl ?_
                  exact ih_34 (v + 1) (nI v) (by omega) (by rw [latN, ← hb, if_pos c53, if_neg c59, if_neg (Nat.not_le.mpr c75)]) (by omega)
      refine jv_lv (lv' := [(0, .ref o.2.1), (1, .int (nI p.toNatClampNeg)), (2, .int (nI r.toNatClampNeg)), (3, .int (-5)), (4, .int (nI (cov S p.toNatClampNeg r.toNatClampNeg))), (5, .int (nI 0))]) [3, 4, 5, 2, 1, 0] rfl ?_
      exact lp34_1 (v_of S p.toNatClampNeg 0 + 1) 0 (-5) (Nat.zero_le _) rfl (by omega)
    · skip
      refine jv_bipush (v := (-2)) X dX2_latest_17 rfl ?_
      exact jv_iret (v := (-2)) X dX2_latest_19 rfl hQ (Nat.le_of_ble_eq_true rfl) (Nat.le_of_ble_eq_true rfl) ⟨((if_pos c5).trans (if_neg (Bool.eq_false_iff.mp c14))).symm, rfl⟩
  · skip
    refine jv_iconst (v := (-1)) X dX2_latest_8 rfl ?_
    exact jv_iret (v := (-1)) X dX2_latest_9 rfl hQ (Nat.le_of_ble_eq_true rfl) (Nat.le_of_ble_eq_true rfl) ⟨(if_neg (Bool.eq_false_iff.mp c5)).symm, rfl⟩
theorem hd_X2_learnedState : jv_dd yX2_learnedState 2 := by unfold jv_dd; decide +kernel
set_option maxHeartbeats 4000000 in
theorem c_X2_learnedState {l : Launch} {G : jv_G} {o : md_O} {F : Nat → Int32} {A : Nat → Nat → Int32} {S : Nat → Nat} (hO : md_K G o) (hS : ∀ j, j < 237 → A 0 j = nI (S j)) (r : Nat) (p : Nat) (hr : r < 30) (hp : p < 7) (hW : wfB S) : jv_Ct G l yX2_learnedState cX2_learnedState 5 (some .int) 1 0 0 22 [.ref o.2.1, .int (nI r), .int (nI p)] (md_M G o F A) (jv_qi G (jv_pi (nI (lsd S r p) - nI 1) (md_M G o F A))) := by
  refine jv_Ct.of (lv := [(0, .ref o.2.1), (1, .int (nI r)), (2, .int (nI p))]) (by decide) (Nat.le_of_ble_eq_true rfl) rfl ?_
  intro x Q_ hl_ hQ X
  subst hl_
  have h5 := hW.r5 hr
  refine jv_aload_n X dX2_learnedState_0 0 rfl ?_
  refine jv_iload_n X dX2_learnedState_1 1 rfl ?_
  refine jv_iconst (v := nI 5) X dX2_learnedState_2 rfl ?_
  refine jv_ask (jv_runV (As := [.int (nI r), .int (nI 5)]) (rest := []) X dX2_learnedState_3 (c_X2_ofRule hO hS r 5 (by omega) (by omega)) (lw_V q2142 q2144 qs46 q100 q2145) hd_X2_ofRule md_M_o rfl (Nat.le_of_ble_eq_true rfl) (Nat.le_of_ble_eq_true rfl) (Nat.le_of_ble_eq_true rfl) (Nat.le_of_ble_eq_true rfl) rfl (Nat.le_of_ble_eq_true rfl)) ?_
  refine jv_istore_n (lv' := [(3, .int (nI (v_ofRule S r 5))), (0, .ref o.2.1), (1, .int (nI r)), (2, .int (nI p))]) X dX2_learnedState_6 rfl (by decide) rfl ?_
  refine jv_iconst (v := nI 0) X dX2_learnedState_7 rfl ?_
  refine jv_istore (lv' := [(4, .int (nI 0)), (3, .int (nI (v_ofRule S r 5))), (0, .ref o.2.1), (1, .int (nI r)), (2, .int (nI p))]) X dX2_learnedState_8 (by decide) rfl ?_
  have lp10_1 : ∀ (d_10 : Nat) (q : Nat) (w : Nat), q ≤ p → w = v_ofRule S r 5 / 7 ^ q → w < 117649 → p - q < d_10 → jv_J x G 5 Q_ (md_M G o F A) 0 0 10 [(0, .ref o.2.1), (1, .int (nI r)), (2, .int (nI p)), (3, .int (nI w)), (4, .int (nI q))] [] := by
    intro d_10
    induction d_10 with
    | zero => intro q w hq hw hwl hm_10; exact absurd hm_10 (Nat.not_lt_zero _)
    | succ d_10 ih_10 =>
      intro q w hq hw hwl hm_10
      refine jv_iload X dX2_learnedState_10 4 rfl ?_
      refine jv_iload_n X dX2_learnedState_12 2 rfl ?_
      refine jn_icmp_ge 27 X dX2_learnedState_13 (by decide) (by omega) (by omega) (fun c13 => ?_) (fun c13 => ?_)
      · skip
        refine jv_iload_n X dX2_learnedState_27 3 rfl ?_
        refine jv_bipush (v := nI 7) X dX2_learnedState_28 rfl ?_
        refine jv_irem (w := nI (w % 7)) X dX2_learnedState_30 (ni_nz (by decide) (by decide)) (pk_rem (by omega) (by decide) (by decide)) ?_
        refine jv_iconst (v := nI 1) X dX2_learnedState_31 rfl ?_
        refine jv_isub (w := nI (w % 7) - nI 1) X dX2_learnedState_32 rfl ?_
        exact jv_iret (v := nI (w % 7) - nI 1) X dX2_learnedState_33 rfl hQ (Nat.le_of_ble_eq_true rfl) (Nat.le_of_ble_eq_true rfl) ⟨(by rw [hw, show q = p by omega]; rfl), rfl⟩
      · skip
        refine jv_iload_n X dX2_learnedState_16 3 rfl ?_
        refine jv_bipush (v := nI 7) X dX2_learnedState_17 rfl ?_
        refine jv_idiv (w := nI (w / 7)) X dX2_learnedState_19 (ni_nz (by decide) (by decide)) (pk_div (by omega) (by decide) (by decide)) ?_
        refine jv_istore_n (lv' := [(3, .int (nI (w / 7))), (0, .ref o.2.1), (1, .int (nI r)), (2, .int (nI p)), (4, .int (nI q))]) X dX2_learnedState_20 rfl (by decide) rfl ?_
        refine jv_iinc (v := nI (q + 1)) (lv' := [(4, .int (nI (q + 1))), (3, .int (nI (w / 7))), (0, .ref o.2.1), (1, .int (nI r)), (2, .int (nI p))]) X dX2_learnedState_21 4 rfl (nI_1 _) (by decide) rfl ?_
        refine jv_goto 10 X dX2_learnedState_24 (by decide) ?_
        refine jv_lv (lv' := [(0, .ref o.2.1), (1, .int (nI r)), (2, .int (nI p)), (3, .int (nI (w / 7))), (4, .int (nI (q + 1)))]) [2, 3, 4, 1, 0] rfl ?_
        exact ih_10 (q + 1) (w / 7) (by omega) (by rw [hw, Nat.div_div_eq_div_mul, ← Nat.pow_succ]) (Nat.lt_of_le_of_lt (Nat.div_le_self _ _) hwl) (by omega)
  refine jv_lv (lv' := [(0, .ref o.2.1), (1, .int (nI r)), (2, .int (nI p)), (3, .int (nI (v_ofRule S r 5))), (4, .int (nI 0))]) [2, 3, 4, 1, 0] rfl ?_
  exact lp10_1 (p + 1) 0 (v_ofRule S r 5) (Nat.zero_le _) (by simp) h5 (by omega)
theorem hd_X2_learnedMany : jv_dd yX2_learnedMany 1 := by unfold jv_dd; decide +kernel
set_option maxHeartbeats 4000000 in
theorem c_X2_learnedMany {l : Launch} {G : jv_G} {o : md_O} {F : Nat → Int32} {A : Nat → Nat → Int32} {S : Nat → Nat} (hO : md_K G o) (hS : ∀ j, j < 237 → A 0 j = nI (S j)) (r : Nat) (hr : r < 30) (hW : wfB S) : jv_Ct G l yX2_learnedMany cX2_learnedMany 4 (some .int) 2 0 0 46 [.ref o.2.1, .int (nI r)] (md_M G o F A) (jv_qi G (jv_pi (nI (lmN S r 6)) (md_M G o F A))) := by
  refine jv_Ct.of (lv := [(0, .ref o.2.1), (1, .int (nI r))]) (by decide) (Nat.le_of_ble_eq_true rfl) rfl ?_
  intro x Q_ hl_ hQ X
  subst hl_
  refine jv_iconst (v := nI 0) X dX2_learnedMany_0 rfl ?_
  refine jv_istore_n (lv' := [(2, .int (nI 0)), (0, .ref o.2.1), (1, .int (nI r))]) X dX2_learnedMany_1 rfl (by decide) rfl ?_
  refine jv_iconst (v := nI 0) X dX2_learnedMany_2 rfl ?_
  refine jv_istore_n (lv' := [(3, .int (nI 0)), (2, .int (nI 0)), (0, .ref o.2.1), (1, .int (nI r))]) X dX2_learnedMany_3 rfl (by decide) rfl ?_
  have lp4_1 : ∀ (d_4 : Nat) (q : Nat) (w : Nat), q ≤ 6 → w = lmN S r q → 6 - q < d_4 → jv_J x G 4 Q_ (md_M G o F A) 0 0 4 [(0, .ref o.2.1), (1, .int (nI r)), (2, .int (nI w)), (3, .int (nI q))] [] := by
    intro d_4
    induction d_4 with
    | zero => intro q w hq hw hm_4; exact absurd hm_4 (Nat.not_lt_zero _)
    | succ d_4 ih_4 =>
      intro q w hq hw hm_4
      refine jv_iload_n X dX2_learnedMany_4 3 rfl ?_
      refine jv_bipush (v := nI 6) X dX2_learnedMany_5 rfl ?_
      refine jn_icmp_ge 34 X dX2_learnedMany_7 (by decide) (by omega) (by decide) (fun c7 => ?_) (fun c7 => ?_)
      · skip
        refine jv_iload_n X dX2_learnedMany_34 2 rfl ?_
        exact jv_iret (v := nI w) X dX2_learnedMany_35 rfl hQ (Nat.le_of_ble_eq_true rfl) (Nat.le_of_ble_eq_true rfl) ⟨(by rw [hw, show q = 6 by omega]), rfl⟩
      · skip
        have hls := lsd_lt S r q
        refine jv_iload_n X dX2_learnedMany_10 2 rfl ?_
        refine jv_aload_n X dX2_learnedMany_11 0 rfl ?_
        refine jv_iload_n X dX2_learnedMany_12 1 rfl ?_
        refine jv_iload_n X dX2_learnedMany_13 3 rfl ?_
        refine jv_ask (jv_runV (As := [.int (nI r), .int (nI q)]) (rest := [.int (nI w)]) X dX2_learnedMany_14 (c_X2_learnedState hO hS r q (by omega) (by omega) hW) (lw_V q2209 q2211 qs55 q100 q2212) hd_X2_learnedState md_M_o rfl (Nat.le_of_ble_eq_true rfl) (Nat.le_of_ble_eq_true rfl) (Nat.le_of_ble_eq_true rfl) (Nat.le_of_ble_eq_true rfl) rfl (Nat.le_of_ble_eq_true rfl)) ?_
        refine jv_iconst (v := (-1)) X dX2_learnedMany_17 rfl ?_
        have j26_2 : ∀ wx : Nat, wx = (if (lsd S r q) = 0 then 0 else 1) → jv_J x G 4 Q_ (md_M G o F A) 0 0 26 [(0, .ref o.2.1), (1, .int (nI r)), (2, .int (nI w)), (3, .int (nI q))] [.int (nI wx), .int (nI w)] := by
          intro wx e_wx
          refine jv_iadd (w := nI (w + wx)) X dX2_learnedMany_26 (nI_add _ _) ?_
          refine jv_istore_n (lv' := [(2, .int (nI (w + wx))), (0, .ref o.2.1), (1, .int (nI r)), (3, .int (nI q))]) X dX2_learnedMany_27 rfl (by decide) rfl ?_
          refine jv_iinc (v := nI (q + 1)) (lv' := [(3, .int (nI (q + 1))), (2, .int (nI (w + wx))), (0, .ref o.2.1), (1, .int (nI r))]) X dX2_learnedMany_28 3 rfl (nI_1 _) (by decide) rfl ?_
          refine jv_goto 4 X dX2_learnedMany_31 (by decide) ?_
          refine jv_lv (lv' := [(0, .ref o.2.1), (1, .int (nI r)), (2, .int (nI (w + wx))), (3, .int (nI (q + 1)))]) [2, 3, 1, 0] rfl ?_
          exact ih_4 (q + 1) (w + wx) (by omega) (by rw [hw, e_wx]; rfl) (by omega)
        refine jq_icmp_ne 25 X dX2_learnedMany_18 (by decide) (by omega) (fun c18 => ?_) (fun c18 => ?_)
        · skip
          refine jv_iconst (v := nI 1) X dX2_learnedMany_25 rfl ?_
          exact j26_2 _ (if_neg c18).symm
        · skip
          refine jv_iconst (v := nI 0) X dX2_learnedMany_21 rfl ?_
          refine jv_goto 26 X dX2_learnedMany_22 (by decide) ?_
          exact j26_2 _ (if_pos c18).symm
  refine jv_lv (lv' := [(0, .ref o.2.1), (1, .int (nI r)), (2, .int (nI 0)), (3, .int (nI 0))]) [2, 3, 1, 0] rfl ?_
  exact lp4_1 (6 + 1) 0 0 (Nat.zero_le _) rfl (by omega)
theorem hd_X2_rule : jv_dd yX2_rule 2 := by unfold jv_dd; decide +kernel
def m_rule (S : Nat → Nat) (r what : Int32) : Int32 :=
  (if (v_isRule S r) = true then (if what = nI 0 then (nI (v_ofRule S r.toNatClampNeg 0)) else (if what = nI 1 then (if (v_ofRule S r.toNatClampNeg 0) = 3 then (-5) else (nI (v_ofRule S r.toNatClampNeg 1))) else (if what = nI 2 then (if (v_inN (v_ofRule S r.toNatClampNeg 0) 1 2) = true then (nI (v_ofRule S r.toNatClampNeg 2)) else (-5)) else (if what = nI 3 then (if (v_inN (v_ofRule S r.toNatClampNeg 0) 1 2) = true then (nI (v_ofRule S r.toNatClampNeg 3)) else (-5)) else (if what = nI 4 then (if (v_ofRule S r.toNatClampNeg 0) = 3 then (-5) else (nI (v_ofRule S r.toNatClampNeg 4))) else (if what = nI 5 then (if (v_ofRule S r.toNatClampNeg 0) = 3 then (nI (lmN S r.toNatClampNeg 6)) else (-5)) else (-2))))))) else (-1))
set_option maxHeartbeats 4000000 in
theorem c_X2_rule {l : Launch} {G : jv_G} {o : md_O} {F : Nat → Int32} {A : Nat → Nat → Int32} {S : Nat → Nat} (hO : md_K G o) (hS : ∀ j, j < 237 → A 0 j = nI (S j)) (r : Int32) (what : Int32) (hW : wfB S) : jv_Ct G l yX2_rule cX2_rule 4 (some .int) 3 0 0 69 [.ref o.2.1, .int r, .int what] (md_M G o F A) (jv_qi G (jv_pi (m_rule S r what) (md_M G o F A))) := by
  refine jv_Ct.of (lv := [(0, .ref o.2.1), (1, .int r), (2, .int what)]) (by decide) (Nat.le_of_ble_eq_true rfl) rfl ?_
  intro x Q_ hl_ hQ X
  subst hl_
  refine jv_aload_n X dX2_rule_0 0 rfl ?_
  refine jv_iload_n X dX2_rule_1 1 rfl ?_
  refine jv_ask (jv_runV (As := [.int r]) (rest := []) X dX2_rule_2 (c_X2_isRule hO hS r) (lw_V q2201 q2203 qs53 q100 q2204) hd_X2_isRule md_M_o rfl (Nat.le_of_ble_eq_true rfl) (Nat.le_of_ble_eq_true rfl) (Nat.le_of_ble_eq_true rfl) (Nat.le_of_ble_eq_true rfl) rfl (Nat.le_of_ble_eq_true rfl)) ?_
  refine jb_if_ne 10 X dX2_rule_5 (by decide) (fun c5 => ?_) (fun c5 => ?_)
  · skip
    have hq_r : nI (r.toNatClampNeg) = r := (v_isRule_n hW c5).2
    refine jv_to (lv' := [(0, .ref o.2.1), (1, .int (nI r.toNatClampNeg)), (2, .int what)]) (st' := []) (by rw [hq_r]) rfl ?_
    have hr30 := Nat.lt_of_lt_of_le (v_isRule_n hW c5).1 hW.r
    have hk := hW.rk hr30
    refine jv_aload_n X dX2_rule_10 0 rfl ?_
    refine jv_iload_n X dX2_rule_11 1 rfl ?_
    refine jv_iconst (v := nI 0) X dX2_rule_12 rfl ?_
    refine jv_ask (jv_runV (As := [.int (nI r.toNatClampNeg), .int (nI 0)]) (rest := []) X dX2_rule_13 (c_X2_ofRule hO hS r.toNatClampNeg 0 (by omega) (by omega)) (lw_V q2142 q2144 qs46 q100 q2145) hd_X2_ofRule md_M_o rfl (Nat.le_of_ble_eq_true rfl) (Nat.le_of_ble_eq_true rfl) (Nat.le_of_ble_eq_true rfl) (Nat.le_of_ble_eq_true rfl) rfl (Nat.le_of_ble_eq_true rfl)) ?_
    refine jv_istore_n (lv' := [(3, .int (nI (v_ofRule S r.toNatClampNeg 0))), (0, .ref o.2.1), (1, .int (nI r.toNatClampNeg)), (2, .int what)]) X dX2_rule_16 rfl (by decide) rfl ?_
    refine jv_iload_n X dX2_rule_17 3 rfl ?_
    by_cases c18_0 : what = nI 0
    · skip
      refine jv_tableIn 56 X dX2_rule_18 (by rw [c18_0]; decide) (by rw [c18_0]; decide) (by rw [c18_0]; rfl) (by decide) ?_
      subst c18_0
      refine jv_iload_n X dX2_rule_56 0 rfl ?_
      exact jv_iret (v := nI (v_ofRule S r.toNatClampNeg 0)) X dX2_rule_57 rfl hQ (Nat.le_of_ble_eq_true rfl) (Nat.le_of_ble_eq_true rfl) ⟨((((if_pos c5).trans (if_pos rfl)).symm)), rfl⟩
    · skip
      by_cases c18_1 : what = nI 1
      · skip
        refine jv_tableIn 58 X dX2_rule_18 (by rw [c18_1]; decide) (by rw [c18_1]; decide) (by rw [c18_1]; rfl) (by decide) ?_
        subst c18_1
        refine jv_iload_n X dX2_rule_58 0 rfl ?_
        refine jv_iconst (v := nI 3) X dX2_rule_59 rfl ?_
        refine jn_icmp_ne 68 X dX2_rule_60 (by decide) (by omega) (by decide) (fun c60 => ?_) (fun c60 => ?_)
        · skip
          refine jv_aload_n X dX2_rule_68 1 rfl ?_
          refine jv_iload_n X dX2_rule_69 2 rfl ?_
          refine jv_iload_n X dX2_rule_70 3 rfl ?_
          refine jv_ask (jv_runV (As := [.int (nI r.toNatClampNeg), .int (nI 1)]) (rest := []) X dX2_rule_71 (c_X2_ofRule hO hS r.toNatClampNeg 1 (by omega) (by omega)) (lw_V q2142 q2144 qs46 q100 q2145) hd_X2_ofRule md_M_o rfl (Nat.le_of_ble_eq_true rfl) (Nat.le_of_ble_eq_true rfl) (Nat.le_of_ble_eq_true rfl) (Nat.le_of_ble_eq_true rfl) rfl (Nat.le_of_ble_eq_true rfl)) ?_
          exact jv_iret (v := nI (v_ofRule S r.toNatClampNeg 1)) X dX2_rule_74 rfl hQ (Nat.le_of_ble_eq_true rfl) (Nat.le_of_ble_eq_true rfl) ⟨((((((if_pos c5).trans (if_neg c18_0)).trans (if_pos rfl)).trans (if_neg c60)).symm)), rfl⟩
        · skip
          refine jv_bipush (v := (-5)) X dX2_rule_63 rfl ?_
          refine jv_goto 74 X dX2_rule_65 (by decide) ?_
          exact jv_iret (v := (-5)) X dX2_rule_74 rfl hQ (Nat.le_of_ble_eq_true rfl) (Nat.le_of_ble_eq_true rfl) ⟨((((((if_pos c5).trans (if_neg c18_0)).trans (if_pos rfl)).trans (if_pos c60)).symm)), rfl⟩
      · skip
        by_cases c18_2 : what = nI 2
        · skip
          refine jv_tableIn 75 X dX2_rule_18 (by rw [c18_2]; decide) (by rw [c18_2]; decide) (by rw [c18_2]; rfl) (by decide) ?_
          subst c18_2
          refine jv_iload_n X dX2_rule_75 0 rfl ?_
          refine jv_iconst (v := nI 1) X dX2_rule_76 rfl ?_
          refine jv_iconst (v := nI 2) X dX2_rule_77 rfl ?_
          refine jv_ask (jv_runS (As := [.int (nI (v_ofRule S r.toNatClampNeg 0)), .int (nI 1), .int (nI 2)]) (rest := []) X dX2_rule_78 (c_X2_inN (v_ofRule S r.toNatClampNeg 0) 1 2 (by omega) (by decide) (by decide)) (lw_S q2112 q2113 q100 q2114) hd_X2_in (Nat.le_of_ble_eq_true rfl) (Nat.le_of_ble_eq_true rfl) (Nat.le_of_ble_eq_true rfl) (Nat.le_of_ble_eq_true rfl) rfl (Nat.le_of_ble_eq_true rfl)) ?_
          refine jb_if_eq 93 X dX2_rule_81 (by decide) (fun c81 => ?_) (fun c81 => ?_)
          · skip
            refine jv_bipush (v := (-5)) X dX2_rule_93 rfl ?_
            exact jv_iret (v := (-5)) X dX2_rule_95 rfl hQ (Nat.le_of_ble_eq_true rfl) (Nat.le_of_ble_eq_true rfl) ⟨(((((((if_pos c5).trans (if_neg c18_0)).trans (if_neg c18_1)).trans (if_pos rfl)).trans (if_neg (Bool.eq_false_iff.mp c81))).symm)), rfl⟩
          · skip
            refine jv_aload_n X dX2_rule_84 1 rfl ?_
            refine jv_iload_n X dX2_rule_85 2 rfl ?_
            refine jv_iload_n X dX2_rule_86 3 rfl ?_
            refine jv_ask (jv_runV (As := [.int (nI r.toNatClampNeg), .int (nI 2)]) (rest := []) X dX2_rule_87 (c_X2_ofRule hO hS r.toNatClampNeg 2 (by omega) (by omega)) (lw_V q2142 q2144 qs46 q100 q2145) hd_X2_ofRule md_M_o rfl (Nat.le_of_ble_eq_true rfl) (Nat.le_of_ble_eq_true rfl) (Nat.le_of_ble_eq_true rfl) (Nat.le_of_ble_eq_true rfl) rfl (Nat.le_of_ble_eq_true rfl)) ?_
            refine jv_goto 95 X dX2_rule_90 (by decide) ?_
            exact jv_iret (v := nI (v_ofRule S r.toNatClampNeg 2)) X dX2_rule_95 rfl hQ (Nat.le_of_ble_eq_true rfl) (Nat.le_of_ble_eq_true rfl) ⟨(((((((if_pos c5).trans (if_neg c18_0)).trans (if_neg c18_1)).trans (if_pos rfl)).trans (if_pos c81)).symm)), rfl⟩
        · skip
          by_cases c18_3 : what = nI 3
          · skip
            refine jv_tableIn 75 X dX2_rule_18 (by rw [c18_3]; decide) (by rw [c18_3]; decide) (by rw [c18_3]; rfl) (by decide) ?_
            subst c18_3
            refine jv_iload_n X dX2_rule_75 0 rfl ?_
            refine jv_iconst (v := nI 1) X dX2_rule_76 rfl ?_
            refine jv_iconst (v := nI 2) X dX2_rule_77 rfl ?_
            refine jv_ask (jv_runS (As := [.int (nI (v_ofRule S r.toNatClampNeg 0)), .int (nI 1), .int (nI 2)]) (rest := []) X dX2_rule_78 (c_X2_inN (v_ofRule S r.toNatClampNeg 0) 1 2 (by omega) (by decide) (by decide)) (lw_S q2112 q2113 q100 q2114) hd_X2_in (Nat.le_of_ble_eq_true rfl) (Nat.le_of_ble_eq_true rfl) (Nat.le_of_ble_eq_true rfl) (Nat.le_of_ble_eq_true rfl) rfl (Nat.le_of_ble_eq_true rfl)) ?_
            refine jb_if_eq 93 X dX2_rule_81 (by decide) (fun c81 => ?_) (fun c81 => ?_)
            · skip
              refine jv_bipush (v := (-5)) X dX2_rule_93 rfl ?_
              exact jv_iret (v := (-5)) X dX2_rule_95 rfl hQ (Nat.le_of_ble_eq_true rfl) (Nat.le_of_ble_eq_true rfl) ⟨((((((((if_pos c5).trans (if_neg c18_0)).trans (if_neg c18_1)).trans (if_neg c18_2)).trans (if_pos rfl)).trans (if_neg (Bool.eq_false_iff.mp c81))).symm)), rfl⟩
            · skip
              refine jv_aload_n X dX2_rule_84 1 rfl ?_
              refine jv_iload_n X dX2_rule_85 2 rfl ?_
              refine jv_iload_n X dX2_rule_86 3 rfl ?_
              refine jv_ask (jv_runV (As := [.int (nI r.toNatClampNeg), .int (nI 3)]) (rest := []) X dX2_rule_87 (c_X2_ofRule hO hS r.toNatClampNeg 3 (by omega) (by omega)) (lw_V q2142 q2144 qs46 q100 q2145) hd_X2_ofRule md_M_o rfl (Nat.le_of_ble_eq_true rfl) (Nat.le_of_ble_eq_true rfl) (Nat.le_of_ble_eq_true rfl) (Nat.le_of_ble_eq_true rfl) rfl (Nat.le_of_ble_eq_true rfl)) ?_
              refine jv_goto 95 X dX2_rule_90 (by decide) ?_
              exact jv_iret (v := nI (v_ofRule S r.toNatClampNeg 3)) X dX2_rule_95 rfl hQ (Nat.le_of_ble_eq_true rfl) (Nat.le_of_ble_eq_true rfl) ⟨((((((((if_pos c5).trans (if_neg c18_0)).trans (if_neg c18_1)).trans (if_neg c18_2)).trans (if_pos rfl)).trans (if_pos c81)).symm)), rfl⟩
          · skip
            by_cases c18_4 : what = nI 4
            · skip
              refine jv_tableIn 58 X dX2_rule_18 (by rw [c18_4]; decide) (by rw [c18_4]; decide) (by rw [c18_4]; rfl) (by decide) ?_
              subst c18_4
              refine jv_iload_n X dX2_rule_58 0 rfl ?_
              refine jv_iconst (v := nI 3) X dX2_rule_59 rfl ?_
              refine jn_icmp_ne 68 X dX2_rule_60 (by decide) (by omega) (by decide) (fun c60 => ?_) (fun c60 => ?_)
              · skip
                refine jv_aload_n X dX2_rule_68 1 rfl ?_
                refine jv_iload_n X dX2_rule_69 2 rfl ?_
                refine jv_iload_n X dX2_rule_70 3 rfl ?_
                refine jv_ask (jv_runV (As := [.int (nI r.toNatClampNeg), .int (nI 4)]) (rest := []) X dX2_rule_71 (c_X2_ofRule hO hS r.toNatClampNeg 4 (by omega) (by omega)) (lw_V q2142 q2144 qs46 q100 q2145) hd_X2_ofRule md_M_o rfl (Nat.le_of_ble_eq_true rfl) (Nat.le_of_ble_eq_true rfl) (Nat.le_of_ble_eq_true rfl) (Nat.le_of_ble_eq_true rfl) rfl (Nat.le_of_ble_eq_true rfl)) ?_
                exact jv_iret (v := nI (v_ofRule S r.toNatClampNeg 4)) X dX2_rule_74 rfl hQ (Nat.le_of_ble_eq_true rfl) (Nat.le_of_ble_eq_true rfl) ⟨(((((((((if_pos c5).trans (if_neg c18_0)).trans (if_neg c18_1)).trans (if_neg c18_2)).trans (if_neg c18_3)).trans (if_pos rfl)).trans (if_neg c60)).symm)), rfl⟩
              · skip
                refine jv_bipush (v := (-5)) X dX2_rule_63 rfl ?_
                refine jv_goto 74 X dX2_rule_65 (by decide) ?_
                exact jv_iret (v := (-5)) X dX2_rule_74 rfl hQ (Nat.le_of_ble_eq_true rfl) (Nat.le_of_ble_eq_true rfl) ⟨(((((((((if_pos c5).trans (if_neg c18_0)).trans (if_neg c18_1)).trans (if_neg c18_2)).trans (if_neg c18_3)).trans (if_pos rfl)).trans (if_pos c60)).symm)), rfl⟩
            · skip
              by_cases c18_5 : what = nI 5
              · skip
                refine jv_tableIn 96 X dX2_rule_18 (by rw [c18_5]; decide) (by rw [c18_5]; decide) (by rw [c18_5]; rfl) (by decide) ?_
                subst c18_5
                refine jv_iload_n X dX2_rule_96 0 rfl ?_
                refine jv_iconst (v := nI 3) X dX2_rule_97 rfl ?_
                refine jn_icmp_ne 109 X dX2_rule_98 (by decide) (by omega) (by decide) (fun c98 => ?_) (fun c98 => ?_)
                · skip
                  refine jv_bipush (v := (-5)) X dX2_rule_109 rfl ?_
                  exact jv_iret (v := (-5)) X dX2_rule_111 rfl hQ (Nat.le_of_ble_eq_true rfl) (Nat.le_of_ble_eq_true rfl) ⟨((((((((((if_pos c5).trans (if_neg c18_0)).trans (if_neg c18_1)).trans (if_neg c18_2)).trans (if_neg c18_3)).trans (if_neg c18_4)).trans (if_pos rfl)).trans (if_neg c98)).symm)), rfl⟩
                · skip
                  refine jv_aload_n X dX2_rule_101 1 rfl ?_
                  refine jv_iload_n X dX2_rule_102 2 rfl ?_
                  refine jv_ask (jv_runV (As := [.int (nI r.toNatClampNeg)]) (rest := []) X dX2_rule_103 (c_X2_learnedMany hO hS r.toNatClampNeg (by omega) hW) (lw_V q2205 q2207 qs54 q100 q2208) hd_X2_learnedMany md_M_o rfl (Nat.le_of_ble_eq_true rfl) (Nat.le_of_ble_eq_true rfl) (Nat.le_of_ble_eq_true rfl) (Nat.le_of_ble_eq_true rfl) rfl (Nat.le_of_ble_eq_true rfl)) ?_
                  refine jv_goto 111 X dX2_rule_106 (by decide) ?_
                  exact jv_iret (v := nI (lmN S r.toNatClampNeg 6)) X dX2_rule_111 rfl hQ (Nat.le_of_ble_eq_true rfl) (Nat.le_of_ble_eq_true rfl) ⟨((((((((((if_pos c5).trans (if_neg c18_0)).trans (if_neg c18_1)).trans (if_neg c18_2)).trans (if_neg c18_3)).trans (if_neg c18_4)).trans (if_pos rfl)).trans (if_pos c98)).symm)), rfl⟩
              · skip
                refine jv_tableOut 112 X dX2_rule_18 (jt_out6 c18_0 c18_1 c18_2 c18_3 c18_4 c18_5) (by decide) ?_
                refine jv_bipush (v := (-2)) X dX2_rule_112 rfl ?_
                exact jv_iret (v := (-2)) X dX2_rule_114 rfl hQ (Nat.le_of_ble_eq_true rfl) (Nat.le_of_ble_eq_true rfl) ⟨(((((((((if_pos c5).trans (if_neg c18_0)).trans (if_neg c18_1)).trans (if_neg c18_2)).trans (if_neg c18_3)).trans (if_neg c18_4)).trans (if_neg c18_5)).symm)), rfl⟩
  · skip
    refine jv_iconst (v := (-1)) X dX2_rule_8 rfl ?_
    exact jv_iret (v := (-1)) X dX2_rule_9 rfl hQ (Nat.le_of_ble_eq_true rfl) (Nat.le_of_ble_eq_true rfl) ⟨(((if_neg (Bool.eq_false_iff.mp c5)).symm)), rfl⟩
theorem hd_X2_learned : jv_dd yX2_learned 2 := by unfold jv_dd; decide +kernel
def m_learned (S : Nat → Nat) (r p : Int32) : Int32 :=
  (if (v_isRule S r) = true then (if (v_isPack S p) = true then (if (if (v_ofRule S r.toNatClampNeg 0) = 3 then (nI (lsd S r.toNatClampNeg p.toNatClampNeg) - nI 1) else (-1)) = (-1) then (-5) else (if (v_ofRule S r.toNatClampNeg 0) = 3 then (nI (lsd S r.toNatClampNeg p.toNatClampNeg) - nI 1) else (-1))) else (-1)) else (-1))
set_option maxHeartbeats 4000000 in
theorem c_X2_learned {l : Launch} {G : jv_G} {o : md_O} {F : Nat → Int32} {A : Nat → Nat → Int32} {S : Nat → Nat} (hO : md_K G o) (hS : ∀ j, j < 237 → A 0 j = nI (S j)) (r : Int32) (p : Int32) (hW : wfB S) : jv_Ct G l yX2_learned cX2_learned 4 (some .int) 2 0 0 46 [.ref o.2.1, .int r, .int p] (md_M G o F A) (jv_qi G (jv_pi (m_learned S r p) (md_M G o F A))) := by
  refine jv_Ct.of (lv := [(0, .ref o.2.1), (1, .int r), (2, .int p)]) (by decide) (Nat.le_of_ble_eq_true rfl) rfl ?_
  intro x Q_ hl_ hQ X
  subst hl_
  refine jv_aload_n X dX2_learned_0 0 rfl ?_
  refine jv_iload_n X dX2_learned_1 1 rfl ?_
  refine jv_ask (jv_runV (As := [.int r]) (rest := []) X dX2_learned_2 (c_X2_isRule hO hS r) (lw_V q2201 q2203 qs53 q100 q2204) hd_X2_isRule md_M_o rfl (Nat.le_of_ble_eq_true rfl) (Nat.le_of_ble_eq_true rfl) (Nat.le_of_ble_eq_true rfl) (Nat.le_of_ble_eq_true rfl) rfl (Nat.le_of_ble_eq_true rfl)) ?_
  refine jb_if_eq 16 X dX2_learned_5 (by decide) (fun c5 => ?_) (fun c5 => ?_)
  · skip
    refine jv_iconst (v := (-1)) X dX2_learned_16 rfl ?_
    exact jv_iret (v := (-1)) X dX2_learned_17 rfl hQ (Nat.le_of_ble_eq_true rfl) (Nat.le_of_ble_eq_true rfl) ⟨(((if_neg (Bool.eq_false_iff.mp c5)).symm)), rfl⟩
  · skip
    refine jv_aload_n X dX2_learned_8 0 rfl ?_
    refine jv_iload_n X dX2_learned_9 2 rfl ?_
    refine jv_ask (jv_runV (As := [.int p]) (rest := []) X dX2_learned_10 (c_X2_isPack hO hS p) (lw_V q2108 q2110 qs41 q100 q2111) hd_X2_isPack md_M_o rfl (Nat.le_of_ble_eq_true rfl) (Nat.le_of_ble_eq_true rfl) (Nat.le_of_ble_eq_true rfl) (Nat.le_of_ble_eq_true rfl) rfl (Nat.le_of_ble_eq_true rfl)) ?_
    refine jb_if_ne 18 X dX2_learned_13 (by decide) (fun c13 => ?_) (fun c13 => ?_)
    · skip
      have hq_r : nI (r.toNatClampNeg) = r := (v_isRule_n hW c5).2
      refine jv_to (lv' := [(0, .ref o.2.1), (1, .int (nI r.toNatClampNeg)), (2, .int p)]) (st' := []) (by rw [hq_r]) rfl ?_
      have hq_p : nI (p.toNatClampNeg) = p := (v_isPack_n hW c13).2
      refine jv_to (lv' := [(0, .ref o.2.1), (1, .int (nI r.toNatClampNeg)), (2, .int (nI p.toNatClampNeg))]) (st' := []) (by rw [hq_p]) rfl ?_
      have hr30 := Nat.lt_of_lt_of_le (v_isRule_n hW c5).1 hW.r
      have hk := hW.rk hr30
      have hp6 := Nat.lt_of_lt_of_le (v_isPack_n hW c13).1 hW.p
      refine jv_aload_n X dX2_learned_18 0 rfl ?_
      refine jv_iload_n X dX2_learned_19 1 rfl ?_
      refine jv_iconst (v := nI 0) X dX2_learned_20 rfl ?_
      refine jv_ask (jv_runV (As := [.int (nI r.toNatClampNeg), .int (nI 0)]) (rest := []) X dX2_learned_21 (c_X2_ofRule hO hS r.toNatClampNeg 0 (by omega) (by omega)) (lw_V q2142 q2144 qs46 q100 q2145) hd_X2_ofRule md_M_o rfl (Nat.le_of_ble_eq_true rfl) (Nat.le_of_ble_eq_true rfl) (Nat.le_of_ble_eq_true rfl) (Nat.le_of_ble_eq_true rfl) rfl (Nat.le_of_ble_eq_true rfl)) ?_
      refine jv_iconst (v := nI 3) X dX2_learned_24 rfl ?_
      have j38_1 : ∀ w_2 : Int32, w_2 = (if (v_ofRule S r.toNatClampNeg 0) = 3 then (nI (lsd S r.toNatClampNeg p.toNatClampNeg) - nI 1) else (-1)) → jv_J x G 4 Q_ (md_M G o F A) 0 0 38 [(0, .ref o.2.1), (1, .int (nI r.toNatClampNeg)), (2, .int (nI p.toNatClampNeg))] [.int w_2] := by
        intro w_2 e_w_2
        subst e_w_2
        refine jv_istore_n (lv' := [(3, .int (if (v_ofRule S r.toNatClampNeg 0) = 3 then (nI (lsd S r.toNatClampNeg p.toNatClampNeg) - nI 1) else (-1))), (0, .ref o.2.1), (1, .int (nI r.toNatClampNeg)), (2, .int (nI p.toNatClampNeg))]) X dX2_learned_38 rfl (by decide) rfl ?_
        refine jv_iload_n X dX2_learned_39 0 rfl ?_
        refine jv_iconst (v := (-1)) X dX2_learned_40 rfl ?_
        refine jv_icmp_ne 49 X dX2_learned_41 (by decide) (fun c41 => ?_) (fun c41 => ?_)
        · skip
          refine jv_iload_n X dX2_learned_49 0 rfl ?_
          exact jv_iret (v := (if (v_ofRule S r.toNatClampNeg 0) = 3 then (nI (lsd S r.toNatClampNeg p.toNatClampNeg) - nI 1) else (-1))) X dX2_learned_50 rfl hQ (Nat.le_of_ble_eq_true rfl) (Nat.le_of_ble_eq_true rfl) ⟨(((((if_pos c5).trans (if_pos c13)).trans (if_neg c41)).symm)), rfl⟩
        · skip
          refine jv_bipush (v := (-5)) X dX2_learned_44 rfl ?_
          refine jv_goto 50 X dX2_learned_46 (by decide) ?_
          exact jv_iret (v := (-5)) X dX2_learned_50 rfl hQ (Nat.le_of_ble_eq_true rfl) (Nat.le_of_ble_eq_true rfl) ⟨(((((if_pos c5).trans (if_pos c13)).trans (if_pos c41)).symm)), rfl⟩
      refine jn_icmp_ne 37 X dX2_learned_25 (by decide) (by omega) (by decide) (fun c25 => ?_) (fun c25 => ?_)
      · skip
        refine jv_iconst (v := (-1)) X dX2_learned_37 rfl ?_
        exact j38_1 _ (if_neg c25).symm
      · skip
        refine jv_aload_n X dX2_learned_28 0 rfl ?_
        refine jv_iload_n X dX2_learned_29 1 rfl ?_
        refine jv_iload_n X dX2_learned_30 2 rfl ?_
        refine jv_ask (jv_runV (As := [.int (nI r.toNatClampNeg), .int (nI p.toNatClampNeg)]) (rest := []) X dX2_learned_31 (c_X2_learnedState hO hS r.toNatClampNeg p.toNatClampNeg (by omega) (by omega) hW) (lw_V q2209 q2211 qs55 q100 q2212) hd_X2_learnedState md_M_o rfl (Nat.le_of_ble_eq_true rfl) (Nat.le_of_ble_eq_true rfl) (Nat.le_of_ble_eq_true rfl) (Nat.le_of_ble_eq_true rfl) rfl (Nat.le_of_ble_eq_true rfl)) ?_
        refine jv_goto 38 X dX2_learned_34 (by decide) ?_
        exact j38_1 _ (if_pos c25).symm
    · skip
      refine jv_iconst (v := (-1)) X dX2_learned_16 rfl ?_
      exact jv_iret (v := (-1)) X dX2_learned_17 rfl hQ (Nat.le_of_ble_eq_true rfl) (Nat.le_of_ble_eq_true rfl) ⟨((((if_pos c5).trans (if_neg (Bool.eq_false_iff.mp c13))).symm)), rfl⟩
theorem hd_X2_allStates : jv_dd yX2_allStates 1 := by unfold jv_dd; decide +kernel
set_option maxHeartbeats 4000000 in
theorem c_X2_allStates {l : Launch} {G : jv_G} {o : md_O} {F : Nat → Int32} {A : Nat → Nat → Int32} {S : Nat → Nat} (hO : md_K G o) (hS : ∀ j, j < 237 → A 0 j = nI (S j)) (p : Nat) (hp : p < 6) (hW : wfB S) : jv_Ct G l yX2_allStates cX2_allStates 2 (some .int) 1 0 0 22 [.ref o.2.1, .int (nI p)] (md_M G o F A) (jv_qi G (jv_pi (nI (v_allStates S p)) (md_M G o F A))) := by
  refine jv_Ct.of (lv := [(0, .ref o.2.1), (1, .int (nI p))]) (by decide) (Nat.le_of_ble_eq_true rfl) rfl ?_
  intro x Q_ hl_ hQ X
  subst hl_
  have hnv := hW.nv hp
  have h2p := Nat.two_pow_pos (v_of S p 0)
  refine jv_iconst (v := nI 1) X dX2_allStates_0 rfl ?_
  refine jv_aload_n X dX2_allStates_1 0 rfl ?_
  refine jv_iload_n X dX2_allStates_2 1 rfl ?_
  refine jv_iconst (v := nI 0) X dX2_allStates_3 rfl ?_
  refine jv_ask (jv_runV (As := [.int (nI p), .int (nI 0)]) (rest := [.int (nI 1)]) X dX2_allStates_4 (c_X2_of hO hS p 0 (by omega) (by omega)) (lw_V q2115 q2117 qs42 q100 q2118) hd_X2_of md_M_o rfl (Nat.le_of_ble_eq_true rfl) (Nat.le_of_ble_eq_true rfl) (Nat.le_of_ble_eq_true rfl) (Nat.le_of_ble_eq_true rfl) rfl (Nat.le_of_ble_eq_true rfl)) ?_
  refine jv_ishl (w := nI (2 ^ (v_of S p 0))) X dX2_allStates_7 (ni_shl1 (by omega)) ?_
  refine jv_iconst (v := nI 1) X dX2_allStates_8 rfl ?_
  refine jv_isub (w := nI ((2 ^ (v_of S p 0)) - 1)) X dX2_allStates_9 (pk_sub (by omega)) ?_
  refine jv_bipush (v := nI 32) X dX2_allStates_10 rfl ?_
  refine jv_ior (w := nI (((2 ^ (v_of S p 0)) - 1) ||| 32)) X dX2_allStates_12 (ni_or _ _) ?_
  exact jv_iret (v := nI (((2 ^ (v_of S p 0)) - 1) ||| 32)) X dX2_allStates_13 rfl hQ (Nat.le_of_ble_eq_true rfl) (Nat.le_of_ble_eq_true rfl) ⟨rfl, rfl⟩
theorem hd_X2_isState : jv_dd yX2_isState 2 := by unfold jv_dd; decide +kernel
set_option maxHeartbeats 4000000 in
theorem c_X2_isState {l : Launch} {G : jv_G} {o : md_O} {F : Nat → Int32} {A : Nat → Nat → Int32} {S : Nat → Nat} (hO : md_K G o) (hS : ∀ j, j < 237 → A 0 j = nI (S j)) (p : Int32) (v : Int32) (hW : wfB S) : jv_Ct G l yX2_isState cX2_isState 3 (some .boolean) 3 0 0 65 [.ref o.2.1, .int p, .int v] (md_M G o F A) (jv_qi G (jv_pi (bI (v_isState S p v)) (md_M G o F A))) := by
  refine jv_Ct.of (lv := [(0, .ref o.2.1), (1, .int p), (2, .int v)]) (by decide) (Nat.le_of_ble_eq_true rfl) rfl ?_
  intro x Q_ hl_ hQ X
  subst hl_
  refine jv_iload_n X dX2_isState_0 2 rfl ?_
  refine jv_iconst (v := nI 5) X dX2_isState_1 rfl ?_
  have j19_1 : ∀ w_2 : Bool, w_2 = (if v = (nI 5) then true else (if (v_isVersion S p v) = true then true else false)) → jv_J x G 3 Q_ (md_M G o F A) 0 0 19 [(0, .ref o.2.1), (1, .int p), (2, .int v)] [.int (bI w_2)] := by
    intro w_2 e_w_2
    subst e_w_2
    exact jv_iret (v := bI (if v = (nI 5) then true else (if (v_isVersion S p v) = true then true else false))) X dX2_isState_19 (bI_nar _) hQ (Nat.le_of_ble_eq_true rfl) (Nat.le_of_ble_eq_true rfl) ⟨rfl, rfl⟩
  refine jv_icmp_eq 14 X dX2_isState_2 (by decide) (fun c2 => ?_) (fun c2 => ?_)
  · skip
    refine jv_iconst (v := nI 1) X dX2_isState_14 rfl ?_
    refine jv_goto 19 X dX2_isState_15 (by decide) ?_
    exact j19_1 _ (if_pos c2).symm
  · skip
    refine jv_aload_n X dX2_isState_5 0 rfl ?_
    refine jv_iload_n X dX2_isState_6 1 rfl ?_
    refine jv_iload_n X dX2_isState_7 2 rfl ?_
    refine jv_ask (jv_runV (As := [.int p, .int v]) (rest := []) X dX2_isState_8 (c_X2_isVersion hO hS p v hW) (lw_V q2127 q2129 qs43 q100 q2130) hd_X2_isVersion md_M_o rfl (Nat.le_of_ble_eq_true rfl) (Nat.le_of_ble_eq_true rfl) (Nat.le_of_ble_eq_true rfl) (Nat.le_of_ble_eq_true rfl) rfl (Nat.le_of_ble_eq_true rfl)) ?_
    refine jb_if_eq 18 X dX2_isState_11 (by decide) (fun c11 => ?_) (fun c11 => ?_)
    · skip
      refine jv_iconst (v := nI 0) X dX2_isState_18 rfl ?_
      exact j19_1 _ ((if_neg c2).trans (if_neg (Bool.eq_false_iff.mp c11))).symm
    · skip
      refine jv_iconst (v := nI 1) X dX2_isState_14 rfl ?_
      refine jv_goto 19 X dX2_isState_15 (by decide) ?_
      exact j19_1 _ ((if_neg c2).trans (if_pos c11)).symm
theorem hd_X2_isAssumed : jv_dd yX2_isAssumed 1 := by unfold jv_dd; decide +kernel
set_option maxHeartbeats 4000000 in
theorem c_X2_isAssumed {l : Launch} {G : jv_G} {o : md_O} {F : Nat → Int32} {A : Nat → Nat → Int32} {S : Nat → Nat} (hO : md_K G o) (hS : ∀ j, j < 237 → A 0 j = nI (S j)) (p : Nat) (hp : p < 6) (hW : wfB S) : jv_Ct G l yX2_isAssumed cX2_isAssumed 3 (some .boolean) 0 0 0 0 [.ref o.2.1, .int (nI p)] (md_M G o F A) (jv_qi G (jv_pi (bI (asdN S p (S 2))) (md_M G o F A))) := by
  refine jv_Ct.of (lv := [(0, .ref o.2.1), (1, .int (nI p))]) (by decide) (Nat.le_of_ble_eq_true rfl) rfl ?_
  intro x Q_ hl_ hQ X
  subst hl_
  have h2 := hW.a
  refine jv_iconst (v := nI 0) X dX2_isAssumed_0 rfl ?_
  refine jv_istore_n (lv' := [(2, .int (nI 0)), (0, .ref o.2.1), (1, .int (nI p))]) X dX2_isAssumed_1 rfl (by decide) rfl ?_
  have lp2_1 : ∀ (d_2 : Nat) (a : Nat), a ≤ S 2 → asdN S p a = false → S 2 - a < d_2 → jv_J x G 3 Q_ (md_M G o F A) 0 0 2 [(0, .ref o.2.1), (1, .int (nI p)), (2, .int (nI a))] [] := by
    intro d_2
    induction d_2 with
    | zero => intro a ha hn hm_2; exact absurd hm_2 (Nat.not_lt_zero _)
    | succ d_2 ih_2 =>
      intro a ha hn hm_2
      refine jv_iload_n X dX2_isAssumed_2 2 rfl ?_
      refine jv_aload_n X dX2_isAssumed_3 0 rfl ?_
      refine jm_getA X dX2_isAssumed_4 0 (by decide) q2010 rfl ?_
      refine jv_iconst (v := nI 2) X dX2_isAssumed_7 rfl ?_
      refine jm_ld (v := nI (S 2)) X hO dX2_isAssumed_8 0 (by decide) (show 2 < 237 from (by omega)) (hS _ (by omega)) ?_
      refine jn_icmp_ge 36 X dX2_isAssumed_9 (by decide) (by omega) (by omega) (fun c9 => ?_) (fun c9 => ?_)
      · skip
        refine jv_iconst (v := nI 0) X dX2_isAssumed_36 rfl ?_
        exact jv_iret (v := bI false) X dX2_isAssumed_37 (bI_nar _) hQ (Nat.le_of_ble_eq_true rfl) (Nat.le_of_ble_eq_true rfl) ⟨(by rw [show S 2 = a by omega, hn]), rfl⟩
      · skip
        have hz : S (225 + 2 * a) < 6 := hW.a0 (a := a) (by omega)
        refine jv_aload_n X dX2_isAssumed_12 0 rfl ?_
        refine jm_getA X dX2_isAssumed_13 0 (by decide) q2010 rfl ?_
        refine jv_sipush (v := nI 225) X dX2_isAssumed_16 rfl ?_
        refine jv_iconst (v := nI 2) X dX2_isAssumed_19 rfl ?_
        refine jv_iload_n X dX2_isAssumed_20 2 rfl ?_
        refine jv_imul (w := nI (2 * a)) X dX2_isAssumed_21 (pk_mul _ _) ?_
        refine jv_iadd (w := nI (225 + (2 * a))) X dX2_isAssumed_22 (nI_add _ _) ?_
        refine jm_ld (v := nI (S (225 + (2 * a)))) X hO dX2_isAssumed_23 0 (by decide) (show (225 + (2 * a)) < 237 from (by omega)) (hS _ (by omega)) ?_
        refine jv_iload_n X dX2_isAssumed_24 1 rfl ?_
        refine jn_icmp_ne 30 X dX2_isAssumed_25 (by decide) (by omega) (by omega) (fun c25 => ?_) (fun c25 => ?_)
        · skip
          refine jv_iinc (v := nI (a + 1)) (lv' := [(2, .int (nI (a + 1))), (0, .ref o.2.1), (1, .int (nI p))]) X dX2_isAssumed_30 2 rfl (nI_1 _) (by decide) rfl ?_
          refine jv_goto 2 X dX2_isAssumed_33 (by decide) ?_
          refine jv_lv (lv' := [(0, .ref o.2.1), (1, .int (nI p)), (2, .int (nI (a + 1)))]) [1, 2, 0] rfl ?_
          exact ih_2 (a + 1) (by omega) (by rw [asdN, hn]; simp [c25]) (by omega)
        · skip
          refine jv_iconst (v := nI 1) X dX2_isAssumed_28 rfl ?_
          exact jv_iret (v := bI true) X dX2_isAssumed_29 (bI_nar _) hQ (Nat.le_of_ble_eq_true rfl) (Nat.le_of_ble_eq_true rfl) ⟨(by rw [asdN_t c9 c25]), rfl⟩
  refine jv_lv (lv' := [(0, .ref o.2.1), (1, .int (nI p)), (2, .int (nI 0))]) [1, 2, 0] rfl ?_
  exact lp2_1 (S 2 + 1) 0 (Nat.zero_le _) rfl (by omega)
