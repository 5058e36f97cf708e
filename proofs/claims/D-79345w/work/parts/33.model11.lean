/-! reference, eleventh -/
set_option maxRecDepth 100000
theorem v_in_c {u : Int32} (h : v_in u (nI 33) (nI 126) = true) : u.toNatClampNeg < 127 ∧ nI u.toNatClampNeg = u := by
  obtain ⟨h1, h2⟩ := v_in_iff.mp h
  have h3 : v_in u (nI 0) (nI 127 - nI 1) = true := v_in_iff.mpr ⟨Int32.le_trans (by decide) h1, h2⟩
  exact v_in_up (n := 127) (by decide) h3
theorem hd_X2_append : jv_dd yX2_append 1 := by unfold jv_dd; decide +kernel
set_option maxHeartbeats 4000000 in
theorem c_X2_append {l : Launch} {G : jv_G} {o : md_O} {F : Nat → Int32} {A : Nat → Nat → Int32} {S : Nat → Nat} (hO : md_K G o) (hS : ∀ j, j < 237 → A 0 j = nI (S j)) {z : t_Z} (hz : isZ F A z) (hl6 : zl z ≤ 60) (c : Int32)  : jv_Ct G l yX2_append cX2_append 2 (some .int) 1 0 0 22 [.ref o.2.1, .int c] (md_M G o F A) (jv_qi G (fun r M' => ∃ F' A', M' = md_M G o F' A' ∧ r = (m_append z c).1 ∧ isZ F' A' (m_append z c).2)) := by
  refine jv_Ct.of (lv := [(0, .ref o.2.1), (1, .int c)]) (by decide) (Nat.le_of_ble_eq_true rfl) rfl ?_
  intro x Q_ hl_ hQ X
  subst hl_
  refine jv_iload_n X dX2_append_0 1 rfl ?_
  refine jv_bipush (v := nI 33) X dX2_append_1 rfl ?_
  refine jv_bipush (v := nI 126) X dX2_append_3 rfl ?_
  refine jv_ask (jv_runS (As := [.int c, .int (nI 33), .int (nI 126)]) (rest := []) X dX2_append_5 (c_X2_in c (nI 33) (nI 126)) (lw_S q2112 q2113 q100 q2114) hd_X2_in (Nat.le_of_ble_eq_true rfl) (Nat.le_of_ble_eq_true rfl) (Nat.le_of_ble_eq_true rfl) (Nat.le_of_ble_eq_true rfl) rfl (Nat.le_of_ble_eq_true rfl)) ?_
  refine jb_if_ne 14 X dX2_append_8 (by decide) (fun c8 => ?_) (fun c8 => ?_)
  · skip
    have hq_c : nI (c.toNatClampNeg) = c := (v_in_c c8).2
    refine jv_to (lv' := [(0, .ref o.2.1), (1, .int (nI c.toNatClampNeg))]) (st' := []) (by rw [hq_c]) rfl ?_
    have hc := (v_in_c c8).1
    refine jv_aload_n X dX2_append_14 0 rfl ?_
    refine jm_getF (v := nI (zl z)) X dX2_append_15 7 (by decide) q2017 rfl hz.2.2.2.2.2.1 ?_
    refine jv_bipush (v := nI 60) X dX2_append_18 rfl ?_
    refine jn_icmp_ne 26 X dX2_append_20 (by decide) (by omega) (by decide) (fun c20 => ?_) (fun c20 => ?_)
    · skip
      refine jv_aload_n X dX2_append_26 0 rfl ?_
      refine jm_getA X dX2_append_27 6 (by decide) q2016 rfl ?_
      refine jv_aload_n X dX2_append_30 0 rfl ?_
      refine jm_getF (v := nI (zl z)) X dX2_append_31 7 (by decide) q2017 rfl hz.2.2.2.2.2.1 ?_
      refine jv_iload_n X dX2_append_34 1 rfl ?_
      refine jm_st (v := nI c.toNatClampNeg) X hO dX2_append_35 6 (by decide) (show (zl z) < 60 from (by omega)) ?_
      refine jv_aload_n X dX2_append_36 0 rfl ?_
      refine jv_dup X dX2_append_37 rfl ?_
      refine jm_getF (v := nI (zl z)) X dX2_append_38 7 (by decide) q2017 rfl hz.2.2.2.2.2.1 ?_
      refine jv_iconst (v := nI 1) X dX2_append_41 rfl ?_
      refine jv_iadd (w := nI ((zl z) + 1)) X dX2_append_42 (nI_add _ _) ?_
      refine jm_putF (ty := .int) (v := nI ((zl z) + 1)) X hO dX2_append_43 7 (by decide) q2017 rfl rfl rfl rfl rfl ?_
      refine jv_aload_n X dX2_append_46 0 rfl ?_
      refine jm_getF (v := nI ((zl z) + 1)) X dX2_append_47 7 (by decide) q2017 rfl pk_us ?_
      exact jv_iret (v := nI ((zl z) + 1)) X dX2_append_50 rfl hQ (Nat.le_of_ble_eq_true rfl) (Nat.le_of_ble_eq_true rfl) ⟨_, _, rfl, (by rw [m_append, if_pos c8, if_neg c20]; exact ⟨rfl, isZ.app hz (by omega)⟩)⟩
    · skip
      refine jv_bipush (v := (-4)) X dX2_append_23 rfl ?_
      exact jv_iret (v := (-4)) X dX2_append_25 rfl hQ (Nat.le_of_ble_eq_true rfl) (Nat.le_of_ble_eq_true rfl) ⟨_, _, rfl, (by rw [m_append, if_pos c8, if_pos c20]; exact ⟨rfl, hz⟩)⟩
  · skip
    refine jv_bipush (v := (-2)) X dX2_append_11 rfl ?_
    exact jv_iret (v := (-2)) X dX2_append_13 rfl hQ (Nat.le_of_ble_eq_true rfl) (Nat.le_of_ble_eq_true rfl) ⟨_, _, rfl, (by rw [m_append, if_neg (Bool.eq_false_iff.mp c8)]; exact ⟨rfl, hz⟩)⟩
theorem hd_X2_here : jv_dd yX2_here 0 := by unfold jv_dd; decide +kernel
set_option maxHeartbeats 4000000 in
theorem c_X2_here {l : Launch} {G : jv_G} {o : md_O} {F : Nat → Int32} {A : Nat → Nat → Int32} {T : Nat → Nat} {e m : Nat} (hO : md_K G o) (hT : ∀ j, j < e → A 6 j = nI (T j)) (he : e ≤ 60) {R : t_R} (hI : isR F e m R) (hle : R.2 ≤ e)   : jv_Ct G l yX2_here cX2_here 1 (some .int) 0 0 0 0 [.ref o.2.1] (md_M G o F A) (jv_qi G (jv_pi (herP T e R.2) (md_M G o F A))) := by
  refine jv_Ct.of (lv := [(0, .ref o.2.1)]) (by decide) (Nat.le_of_ble_eq_true rfl) rfl ?_
  intro x Q_ hl_ hQ X
  subst hl_
  refine jv_aload_n X dX2_here_0 0 rfl ?_
  refine jm_getF (v := nI R.2) X dX2_here_1 22 (by decide) q2032 rfl hI.1 ?_
  refine jv_aload_n X dX2_here_4 0 rfl ?_
  refine jm_getF (v := nI e) X dX2_here_5 23 (by decide) q2033 rfl hI.2.1 ?_
  refine jn_icmp_ge 23 X dX2_here_8 (by decide) (by omega) (by omega) (fun c8 => ?_) (fun c8 => ?_)
  · skip
    refine jv_iconst (v := (-1)) X dX2_here_23 rfl ?_
    exact jv_iret (v := (-1)) X dX2_here_24 rfl hQ (Nat.le_of_ble_eq_true rfl) (Nat.le_of_ble_eq_true rfl) ⟨(by unfold herP; split <;> first | rfl | (exfalso; omega)), rfl⟩
  · skip
    refine jv_aload_n X dX2_here_11 0 rfl ?_
    refine jm_getA X dX2_here_12 6 (by decide) q2016 rfl ?_
    refine jv_aload_n X dX2_here_15 0 rfl ?_
    refine jm_getF (v := nI R.2) X dX2_here_16 22 (by decide) q2032 rfl hI.1 ?_
    refine jm_ld (v := nI (T R.2)) X hO dX2_here_19 6 (by decide) (show R.2 < 60 from (by omega)) (hT _ (by omega)) ?_
    refine jv_goto 24 X dX2_here_20 (by decide) ?_
    exact jv_iret (v := nI (T R.2)) X dX2_here_24 rfl hQ (Nat.le_of_ble_eq_true rfl) (Nat.le_of_ble_eq_true rfl) ⟨(by unfold herP; split <;> first | rfl | (exfalso; omega)), rfl⟩
theorem hd_X2_among : jv_dd yX2_among 1 := by unfold jv_dd; decide +kernel
set_option maxHeartbeats 4000000 in
theorem c_X2_among {l : Launch} {G : jv_G} {o : md_O} {F : Nat → Int32} {A : Nat → Nat → Int32} (hO : md_K G o) (c : Int32)  : jv_Ct G l yX2_among cX2_among 2 (some .int) 0 0 0 0 [.ref o.2.1, .int c] (md_M G o F A) (jv_qi G (jv_pi (nI (amo c)) (md_M G o F A))) := by
  refine jv_Ct.of (lv := [(0, .ref o.2.1), (1, .int c)]) (by decide) (Nat.le_of_ble_eq_true rfl) rfl ?_
  intro x Q_ hl_ hQ X
  subst hl_
  refine jv_iload_n X dX2_among_0 1 rfl ?_
  refine jv_bipush (v := nI 61) X dX2_among_1 rfl ?_
  refine jv_icmp_ne 10 X dX2_among_3 (by decide) (fun c3 => ?_) (fun c3 => ?_)
  · skip
    refine jv_iload_n X dX2_among_10 1 rfl ?_
    refine jv_bipush (v := nI 60) X dX2_among_11 rfl ?_
    refine jv_icmp_ne 20 X dX2_among_13 (by decide) (fun c13 => ?_) (fun c13 => ?_)
    · skip
      refine jv_iload_n X dX2_among_20 1 rfl ?_
      refine jv_bipush (v := nI 43) X dX2_among_21 rfl ?_
      refine jv_icmp_ne 30 X dX2_among_23 (by decide) (fun c23 => ?_) (fun c23 => ?_)
      · skip
        refine jv_iload_n X dX2_among_30 1 rfl ?_
        refine jv_bipush (v := nI 94) X dX2_among_31 rfl ?_
        refine jv_icmp_ne 40 X dX2_among_33 (by decide) (fun c33 => ?_) (fun c33 => ?_)
        · skip
          refine jv_iload_n X dX2_among_40 1 rfl ?_
          refine jv_bipush (v := nI 126) X dX2_among_41 rfl ?_
          refine jv_icmp_ne 50 X dX2_among_43 (by decide) (fun c43 => ?_) (fun c43 => ?_)
          · skip
            refine jv_iconst (v := nI 0) X dX2_among_50 rfl ?_
            exact jv_iret (v := nI 0) X dX2_among_51 rfl hQ (Nat.le_of_ble_eq_true rfl) (Nat.le_of_ble_eq_true rfl) ⟨(by rw [amo, if_neg c3, if_neg c13, if_neg c23, if_neg c33, if_neg c43]), rfl⟩
          · skip
            refine jv_iconst (v := nI 5) X dX2_among_46 rfl ?_
            refine jv_goto 51 X dX2_among_47 (by decide) ?_
            exact jv_iret (v := nI 5) X dX2_among_51 rfl hQ (Nat.le_of_ble_eq_true rfl) (Nat.le_of_ble_eq_true rfl) ⟨(by rw [amo, if_neg c3, if_neg c13, if_neg c23, if_neg c33, if_pos c43]), rfl⟩
        · skip
          refine jv_iconst (v := nI 4) X dX2_among_36 rfl ?_
          refine jv_goto 51 X dX2_among_37 (by decide) ?_
          exact jv_iret (v := nI 4) X dX2_among_51 rfl hQ (Nat.le_of_ble_eq_true rfl) (Nat.le_of_ble_eq_true rfl) ⟨(by rw [amo, if_neg c3, if_neg c13, if_neg c23, if_pos c33]), rfl⟩
      · skip
        refine jv_iconst (v := nI 3) X dX2_among_26 rfl ?_
        refine jv_goto 51 X dX2_among_27 (by decide) ?_
        exact jv_iret (v := nI 3) X dX2_among_51 rfl hQ (Nat.le_of_ble_eq_true rfl) (Nat.le_of_ble_eq_true rfl) ⟨(by rw [amo, if_neg c3, if_neg c13, if_pos c23]), rfl⟩
    · skip
      refine jv_iconst (v := nI 2) X dX2_among_16 rfl ?_
      refine jv_goto 51 X dX2_among_17 (by decide) ?_
      exact jv_iret (v := nI 2) X dX2_among_51 rfl hQ (Nat.le_of_ble_eq_true rfl) (Nat.le_of_ble_eq_true rfl) ⟨(by rw [amo, if_neg c3, if_pos c13]), rfl⟩
  · skip
    refine jv_iconst (v := nI 1) X dX2_among_6 rfl ?_
    refine jv_goto 51 X dX2_among_7 (by decide) ?_
    exact jv_iret (v := nI 1) X dX2_among_51 rfl hQ (Nat.le_of_ble_eq_true rfl) (Nat.le_of_ble_eq_true rfl) ⟨(by rw [amo, if_pos c3]), rfl⟩
theorem hd_X2_must : jv_dd yX2_must 2 := by unfold jv_dd; decide +kernel
set_option maxHeartbeats 4000000 in
theorem c_X2_must {l : Launch} {G : jv_G} {o : md_O} {F : Nat → Int32} {A : Nat → Nat → Int32} {T : Nat → Nat} {e m : Nat} (hO : md_K G o) (hT : ∀ j, j < e → A 6 j = nI (T j)) (he : e ≤ 60) {R : t_R} (hI : isR F e m R) (hle : R.2 ≤ e) (lo : Nat) (hi : Nat)  : jv_Ct G l yX2_must cX2_must 4 (some .int) 1 0 0 22 [.ref o.2.1, .int (nI lo), .int (nI hi)] (md_M G o F A) (jv_qi G (fun r M' => ∃ F', M' = md_M G o F' A ∧ r = mvl T e lo R ∧ isR F' e m (mstR T e lo hi R) ∧ ktR F F')) := by
  refine jv_Ct.of (lv := [(0, .ref o.2.1), (1, .int (nI lo)), (2, .int (nI hi))]) (by decide) (Nat.le_of_ble_eq_true rfl) rfl ?_
  intro x Q_ hl_ hQ X
  subst hl_
  refine jv_aload_n X dX2_must_0 0 rfl ?_
  refine jv_ask (jv_runV (As := []) (rest := []) X dX2_must_1 (c_X2_here hO hT he hI hle) (lw_V q2395 q2397 qs80 q100 q2398) hd_X2_here md_M_o rfl (Nat.le_of_ble_eq_true rfl) (Nat.le_of_ble_eq_true rfl) (Nat.le_of_ble_eq_true rfl) (Nat.le_of_ble_eq_true rfl) rfl (Nat.le_of_ble_eq_true rfl)) ?_
  refine jv_istore_n (lv' := [(3, .int (herP T e R.2)), (0, .ref o.2.1), (1, .int (nI lo)), (2, .int (nI hi))]) X dX2_must_4 rfl (by decide) rfl ?_
  refine jv_aload_n X dX2_must_5 1 rfl ?_
  refine jv_aload_n X dX2_must_6 1 rfl ?_
  refine jm_getF (v := bI R.1) X dX2_must_7 24 (by decide) q2034 rfl hI.2.2.1 ?_
  have j27_1 : ∀ ok : Bool, ok = (if R.1 = true then (if (v_in (herP T e R.2) (nI lo) (nI hi)) = true then true else false) else false) → jv_J x G 4 Q_ (md_M G o F A) 0 0 27 [(3, .int (herP T e R.2)), (0, .ref o.2.1), (1, .int (nI lo)), (2, .int (nI hi))] [.int (bI ok), .ref o.2.1] := by
    intro ok e_ok
    refine jm_putF (ty := .boolean) (v := bI ok) X hO dX2_must_27 24 (by decide) q2034 rfl rfl (bI_nar _) (bI_fit _) rfl ?_
    refine jv_aload_n X dX2_must_30 1 rfl ?_
    refine jv_dup X dX2_must_31 rfl ?_
    refine jm_getF (v := nI R.2) X dX2_must_32 22 (by decide) q2032 rfl ((pk_un (by decide)).trans hI.1) ?_
    refine jv_aload_n X dX2_must_35 1 rfl ?_
    refine jm_getF (v := bI ok) X dX2_must_36 24 (by decide) q2034 rfl pk_us ?_
    have j47_2 : ∀ ad : Nat, ad = (if ok = true then 1 else 0) → jv_J x G 4 Q_ (md_M G o (upd F 24 (bI ok)) A) 0 0 47 [(3, .int (herP T e R.2)), (0, .ref o.2.1), (1, .int (nI lo)), (2, .int (nI hi))] [.int (nI ad), .int (nI R.2), .ref o.2.1] := by
      intro ad e_ad
      refine jv_iadd (w := nI (R.2 + ad)) X dX2_must_47 (nI_add _ _) ?_
      refine jm_putF (ty := .int) (v := nI (R.2 + ad)) X hO dX2_must_48 22 (by decide) q2032 rfl rfl rfl rfl rfl ?_
      refine jv_iload_n X dX2_must_51 0 rfl ?_
      refine jv_iload_n X dX2_must_52 2 rfl ?_
      refine jv_isub (w := (herP T e R.2) - (nI lo)) X dX2_must_53 rfl ?_
      exact jv_iret (v := (herP T e R.2) - (nI lo)) X dX2_must_54 rfl hQ (Nat.le_of_ble_eq_true rfl) (Nat.le_of_ble_eq_true rfl) ⟨_, rfl, ⟨rfl, ⟨pk_us.trans (by rw [mstR, ← e_ok, e_ad]), (pk_un (by decide)).trans ((pk_un (by decide)).trans hI.2.1), (pk_un (by decide)).trans (pk_us.trans (by rw [mstR, ← e_ok])), (pk_un (by decide)).trans ((pk_un (by decide)).trans hI.2.2.2)⟩, fun i a b c => by simp only [upd, if_neg a, if_neg b]⟩⟩
    refine jb_if_eq 46 X dX2_must_39 (by decide) (fun c39 => ?_) (fun c39 => ?_)
    · skip
      refine jv_iconst (v := nI 0) X dX2_must_46 rfl ?_
      exact j47_2 _ (if_neg (Bool.eq_false_iff.mp c39)).symm
    · skip
      refine jv_iconst (v := nI 1) X dX2_must_42 rfl ?_
      refine jv_goto 47 X dX2_must_43 (by decide) ?_
      exact j47_2 _ (if_pos c39).symm
  refine jb_if_eq 26 X dX2_must_10 (by decide) (fun c10 => ?_) (fun c10 => ?_)
  · skip
    refine jv_iconst (v := nI 0) X dX2_must_26 rfl ?_
    exact j27_1 _ (if_neg (Bool.eq_false_iff.mp c10)).symm
  · skip
    refine jv_iload_n X dX2_must_13 0 rfl ?_
    refine jv_iload_n X dX2_must_14 2 rfl ?_
    refine jv_iload_n X dX2_must_15 3 rfl ?_
    refine jv_ask (jv_runS (As := [.int (herP T e R.2), .int (nI lo), .int (nI hi)]) (rest := [.ref o.2.1]) X dX2_must_16 (c_X2_in (herP T e R.2) (nI lo) (nI hi)) (lw_S q2112 q2113 q100 q2114) hd_X2_in (Nat.le_of_ble_eq_true rfl) (Nat.le_of_ble_eq_true rfl) (Nat.le_of_ble_eq_true rfl) (Nat.le_of_ble_eq_true rfl) rfl (Nat.le_of_ble_eq_true rfl)) ?_
    refine jb_if_eq 26 X dX2_must_19 (by decide) (fun c19 => ?_) (fun c19 => ?_)
    · skip
      refine jv_iconst (v := nI 0) X dX2_must_26 rfl ?_
      exact j27_1 _ ((if_pos c10).trans (if_neg (Bool.eq_false_iff.mp c19))).symm
    · skip
      refine jv_iconst (v := nI 1) X dX2_must_22 rfl ?_
      refine jv_goto 27 X dX2_must_23 (by decide) ?_
      exact j27_1 _ ((if_pos c10).trans (if_pos c19)).symm
theorem hd_X2_puts : jv_dd yX2_puts 2 := by unfold jv_dd; decide +kernel
set_option maxHeartbeats 4000000 in
theorem c_X2_puts {l : Launch} {G : jv_G} {o : md_O} {F : Nat → Int32} {A : Nat → Nat → Int32} {m : Nat} (hO : md_K G o) (h26 : F 26 = nI m) (w : Nat) (v : Int32) (hw : 5 * m + w < 155) : jv_Ct G l yX2_puts cX2_puts 3 (none) 0 0 0 0 [.ref o.2.1, .int (nI w), .int v] (md_M G o F A) (jv_qv G (fun M' => ∃ A', M' = md_M G o F A' ∧ A' = mdA A 25 (5 * m + w) v)) := by
  refine jv_Ct.of (lv := [(0, .ref o.2.1), (1, .int (nI w)), (2, .int v)]) (by decide) (Nat.le_of_ble_eq_true rfl) rfl ?_
  intro x Q_ hl_ hQ X
  subst hl_
  refine jv_aload_n X dX2_puts_0 0 rfl ?_
  refine jm_getA X dX2_puts_1 25 (by decide) q2035 rfl ?_
  refine jv_iconst (v := nI 5) X dX2_puts_4 rfl ?_
  refine jv_aload_n X dX2_puts_5 0 rfl ?_
  refine jm_getF (v := nI m) X dX2_puts_6 26 (by decide) q2036 rfl h26 ?_
  refine jv_imul (w := nI (5 * m)) X dX2_puts_9 (pk_mul _ _) ?_
  refine jv_iload_n X dX2_puts_10 1 rfl ?_
  refine jv_iadd (w := nI ((5 * m) + w)) X dX2_puts_11 (nI_add _ _) ?_
  refine jv_iload_n X dX2_puts_12 2 rfl ?_
  refine jm_st (v := v) X hO dX2_puts_13 25 (by decide) (show ((5 * m) + w) < 155 from (by omega)) ?_
  exact jv_vret X dX2_puts_14 hQ (Nat.le_of_ble_eq_true rfl) (Nat.le_of_ble_eq_true rfl) ⟨_, rfl, rfl⟩
theorem hd_X2_readsTarget : jv_dd yX2_readsTarget 0 := by unfold jv_dd; decide +kernel
set_option maxHeartbeats 4000000 in
theorem c_X2_readsTarget {l : Launch} {G : jv_G} {o : md_O} {F : Nat → Int32} {A : Nat → Nat → Int32} {T : Nat → Nat} {e m : Nat} (hO : md_K G o) (hT : ∀ j, j < e → A 6 j = nI (T j)) (he : e ≤ 60) {R : t_R} (hI : isR F e m R) (hle : R.2 ≤ e)  (hm : 5 * m + 4 < 155) : jv_Ct G l yX2_readsTarget cX2_readsTarget 3 (none) 2 0 0 45 [.ref o.2.1] (md_M G o F A) (jv_qv G (fun M' => ∃ F' A', M' = md_M G o F' A' ∧ isR F' e m (tgt T e R).1 ∧ ktR F F' ∧ (∀ i, i ≠ 25 → A' i = A i) ∧ A' 25 (5 * m + 3) = (tgt T e R).2.1 ∧ A' 25 (5 * m + 4) = (tgt T e R).2.2 ∧ ∀ j, j < 5 * m + 3 → A' 25 j = A 25 j)) := by
  refine jv_Ct.of (lv := [(0, .ref o.2.1)]) (by decide) (Nat.le_of_ble_eq_true rfl) rfl ?_
  intro x Q_ hl_ hQ X
  subst hl_
  refine jv_aload_n X dX2_readsTarget_0 0 rfl ?_
  refine jv_iconst (v := nI 3) X dX2_readsTarget_1 rfl ?_
  refine jv_aload_n X dX2_readsTarget_2 0 rfl ?_
  refine jv_bipush (v := nI 97) X dX2_readsTarget_3 rfl ?_
  refine jv_bipush (v := nI 102) X dX2_readsTarget_5 rfl ?_
  refine jv_calli (jv_runV (As := [.int (nI 97), .int (nI 102)]) (rest := [.int (nI 3), .ref o.2.1]) X dX2_readsTarget_7 (c_X2_must hO hT he hI hle 97 102) (lw_V q2399 q2401 qs81 q100 q2402) hd_X2_must md_M_o rfl (Nat.le_of_ble_eq_true rfl) (Nat.le_of_ble_eq_true rfl) (Nat.le_of_ble_eq_true rfl) (Nat.le_of_ble_eq_true rfl) rfl (Nat.le_of_ble_eq_true rfl)) (fun r1 M_ h_ => ?_)
  obtain ⟨F1, rfl, h1⟩ := h_
  obtain ⟨rfl, hI1, hK1⟩ := h1
  obtain ⟨R1, hR1⟩ : ∃ R_, R_ = mstR T e 97 102 R := ⟨_, rfl⟩
  rw [← hR1] at hI1
  have hle1 : R1.2 ≤ e := by rw [hR1]; exact mstR_le (by decide) hle
  refine jv_callv (jv_runV (As := [.int (nI 3), .int (mvl T e 97 R)]) (rest := []) X dX2_readsTarget_10 (c_X2_puts hO hI1.2.2.2 3 (mvl T e 97 R) (by omega)) (lw_V q2391 q2393 qs79 q100 q2394) hd_X2_puts md_M_o rfl (Nat.le_of_ble_eq_true rfl) (Nat.le_of_ble_eq_true rfl) (Nat.le_of_ble_eq_true rfl) (Nat.le_of_ble_eq_true rfl) rfl (Nat.le_of_ble_eq_true rfl)) (fun M_ h_ => ?_)
  obtain ⟨A2, rfl, h2⟩ := h_
  obtain rfl := h2
  have hT2 : ∀ j, j < e → (mdA A 25 (5 * m + 3) (mvl T e 97 R)) 6 j = nI (T j) := fun j hj => (mdA_n (by decide)).trans (hT j hj)
  refine jv_aload_n X dX2_readsTarget_13 0 rfl ?_
  refine jv_iconst (v := nI 4) X dX2_readsTarget_14 rfl ?_
  refine jv_iconst (v := nI 0) X dX2_readsTarget_15 rfl ?_
  refine jv_callv (jv_runV (As := [.int (nI 4), .int (nI 0)]) (rest := []) X dX2_readsTarget_16 (c_X2_puts hO hI1.2.2.2 4 (nI 0) (by omega)) (lw_V q2391 q2393 qs79 q100 q2394) hd_X2_puts md_M_o rfl (Nat.le_of_ble_eq_true rfl) (Nat.le_of_ble_eq_true rfl) (Nat.le_of_ble_eq_true rfl) (Nat.le_of_ble_eq_true rfl) rfl (Nat.le_of_ble_eq_true rfl)) (fun M_ h_ => ?_)
  obtain ⟨A3, rfl, h3⟩ := h_
  obtain rfl := h3
  have hT3 : ∀ j, j < e → (mdA (mdA A 25 (5 * m + 3) (mvl T e 97 R)) 25 (5 * m + 4) (nI 0)) 6 j = nI (T j) := fun j hj => (mdA_n (by decide)).trans (hT2 j hj)
  refine jv_aload_n X dX2_readsTarget_19 0 rfl ?_
  refine jm_getF (v := bI R1.1) X dX2_readsTarget_20 24 (by decide) q2034 rfl hI1.2.2.1 ?_
  refine jb_if_ne 27 X dX2_readsTarget_23 (by decide) (fun c23 => ?_) (fun c23 => ?_)
  · skip
    refine jv_aload_n X dX2_readsTarget_27 0 rfl ?_
    refine jv_ask (jv_runV (As := []) (rest := []) X dX2_readsTarget_28 (c_X2_here hO hT3 he hI1 hle1) (lw_V q2395 q2397 qs80 q100 q2398) hd_X2_here md_M_o rfl (Nat.le_of_ble_eq_true rfl) (Nat.le_of_ble_eq_true rfl) (Nat.le_of_ble_eq_true rfl) (Nat.le_of_ble_eq_true rfl) rfl (Nat.le_of_ble_eq_true rfl)) ?_
    refine jv_bipush (v := nI 42) X dX2_readsTarget_31 rfl ?_
    refine jv_icmp_ne 47 X dX2_readsTarget_33 (by decide) (fun c33 => ?_) (fun c33 => ?_)
    · skip
      refine jv_aload_n X dX2_readsTarget_47 0 rfl ?_
      refine jv_aload_n X dX2_readsTarget_48 0 rfl ?_
      refine jv_ask (jv_runV (As := []) (rest := [.ref o.2.1]) X dX2_readsTarget_49 (c_X2_here hO hT3 he hI1 hle1) (lw_V q2395 q2397 qs80 q100 q2398) hd_X2_here md_M_o rfl (Nat.le_of_ble_eq_true rfl) (Nat.le_of_ble_eq_true rfl) (Nat.le_of_ble_eq_true rfl) (Nat.le_of_ble_eq_true rfl) rfl (Nat.le_of_ble_eq_true rfl)) ?_
      refine jv_ask (jv_runV (As := [.int (herP T e R1.2)]) (rest := []) X dX2_readsTarget_52 (c_X2_among hO (herP T e R1.2)) (lw_V q2407 q2409 qs83 q100 q2410) hd_X2_among md_M_o rfl (Nat.le_of_ble_eq_true rfl) (Nat.le_of_ble_eq_true rfl) (Nat.le_of_ble_eq_true rfl) (Nat.le_of_ble_eq_true rfl) rfl (Nat.le_of_ble_eq_true rfl)) ?_
      refine jv_istore_n (lv' := [(1, .int (nI (amo (herP T e R1.2)))), (0, .ref o.2.1)]) X dX2_readsTarget_55 rfl (by decide) rfl ?_
      refine jv_aload_n X dX2_readsTarget_56 1 rfl ?_
      refine jv_iload_n X dX2_readsTarget_57 0 rfl ?_
      have j66_4 : ∀ ok2 : Bool, ok2 = (if (amo (herP T e R1.2)) = 0 then false else true) → jv_J x G 3 Q_ (md_M G o F1 (mdA (mdA A 25 (5 * m + 3) (mvl T e 97 R)) 25 (5 * m + 4) (nI 0))) 0 0 66 [(1, .int (nI (amo (herP T e R1.2)))), (0, .ref o.2.1)] [.int (bI ok2), .ref o.2.1] := by
        intro ok2 e_ok2
        refine jm_putF (ty := .boolean) (v := bI ok2) X hO dX2_readsTarget_66 24 (by decide) q2034 rfl rfl (bI_nar _) (bI_fit _) rfl ?_
        refine jv_aload_n X dX2_readsTarget_69 1 rfl ?_
        refine jv_dup X dX2_readsTarget_70 rfl ?_
        refine jm_getF (v := nI R1.2) X dX2_readsTarget_71 22 (by decide) q2032 rfl ((pk_un (by decide)).trans hI1.1) ?_
        refine jv_aload_n X dX2_readsTarget_74 1 rfl ?_
        refine jm_getF (v := bI ok2) X dX2_readsTarget_75 24 (by decide) q2034 rfl pk_us ?_
        have j86_5 : ∀ ad2 : Nat, ad2 = (if ok2 = true then 1 else 0) → jv_J x G 3 Q_ (md_M G o (upd F1 24 (bI ok2)) (mdA (mdA A 25 (5 * m + 3) (mvl T e 97 R)) 25 (5 * m + 4) (nI 0))) 0 0 86 [(1, .int (nI (amo (herP T e R1.2)))), (0, .ref o.2.1)] [.int (nI ad2), .int (nI R1.2), .ref o.2.1] := by
          intro ad2 e_ad2
          refine jv_iadd (w := nI (R1.2 + ad2)) X dX2_readsTarget_86 (nI_add _ _) ?_
          refine jm_putF (ty := .int) (v := nI (R1.2 + ad2)) X hO dX2_readsTarget_87 22 (by decide) q2032 rfl rfl rfl rfl rfl ?_
          obtain ⟨R6, hR6⟩ : ∃ R_ : t_R, R_ = (ok2, R1.2 + ad2) := ⟨_, rfl⟩
          have hI6 : isR (upd (upd F1 24 (bI ok2)) 22 (nI (R1.2 + ad2))) e m R6 := by rw [hR6]; exact ⟨pk_us, ((pk_un (by decide)).trans ((pk_un (by decide)).trans hI1.2.1)), ((pk_un (by decide)).trans pk_us), ((pk_un (by decide)).trans ((pk_un (by decide)).trans hI1.2.2.2))⟩
          have hD6 : R6 = tgK T e R1 := by rw [hR6]; rw [tgK, ← e_ok2, e_ad2]
          have hle6 : R6.2 ≤ e := by rw [hD6]; exact tgK_le hle1
          have hK6 : ktR F (upd (upd F1 24 (bI ok2)) 22 (nI (R1.2 + ad2))) := fun i a b c => by simp only [upd, if_neg a, if_neg b, if_neg c] <;> exact (ktR.rf.tr hK1) i a b c
          refine jv_sipush (v := nI 1000) X dX2_readsTarget_90 rfl ?_
          refine jv_iload_n X dX2_readsTarget_93 0 rfl ?_
          refine jv_imul (w := nI (1000 * (amo (herP T e R1.2)))) X dX2_readsTarget_94 (pk_mul _ _) ?_
          refine jv_bipush (v := nI 100) X dX2_readsTarget_95 rfl ?_
          refine jv_aload_n X dX2_readsTarget_97 1 rfl ?_
          refine jv_bipush (v := nI 48) X dX2_readsTarget_98 rfl ?_
          refine jv_bipush (v := nI 57) X dX2_readsTarget_100 rfl ?_
          refine jv_calli (jv_runV (As := [.int (nI 48), .int (nI 57)]) (rest := [.int (nI 100), .int (nI (1000 * (amo (herP T e R1.2))))]) X dX2_readsTarget_102 (c_X2_must hO hT3 he hI6 hle6 48 57) (lw_V q2399 q2401 qs81 q100 q2402) hd_X2_must md_M_o rfl (Nat.le_of_ble_eq_true rfl) (Nat.le_of_ble_eq_true rfl) (Nat.le_of_ble_eq_true rfl) (Nat.le_of_ble_eq_true rfl) rfl (Nat.le_of_ble_eq_true rfl)) (fun r7 M_ h_ => ?_)
          obtain ⟨F7, rfl, h7⟩ := h_
          obtain ⟨rfl, hI7, hK7⟩ := h7
          obtain ⟨R7, hR7⟩ : ∃ R_, R_ = mstR T e 48 57 R6 := ⟨_, rfl⟩
          rw [← hR7] at hI7
          have hle7 : R7.2 ≤ e := by rw [hR7]; exact mstR_le (by decide) hle6
          refine jv_imul (w := (nI 100) * (mvl T e 48 R6)) X dX2_readsTarget_105 rfl ?_
          refine jv_iadd (w := (nI (1000 * (amo (herP T e R1.2)))) + ((nI 100) * (mvl T e 48 R6))) X dX2_readsTarget_106 rfl ?_
          refine jv_istore_n (lv' := [(2, .int ((nI (1000 * (amo (herP T e R1.2)))) + ((nI 100) * (mvl T e 48 R6)))), (1, .int (nI (amo (herP T e R1.2)))), (0, .ref o.2.1)]) X dX2_readsTarget_107 rfl (by decide) rfl ?_
          refine jv_aload_n X dX2_readsTarget_108 2 rfl ?_
          refine jv_bipush (v := nI 46) X dX2_readsTarget_109 rfl ?_
          refine jv_bipush (v := nI 46) X dX2_readsTarget_111 rfl ?_
          refine jv_calli (jv_runV (As := [.int (nI 46), .int (nI 46)]) (rest := []) X dX2_readsTarget_113 (c_X2_must hO hT3 he hI7 hle7 46 46) (lw_V q2399 q2401 qs81 q100 q2402) hd_X2_must md_M_o rfl (Nat.le_of_ble_eq_true rfl) (Nat.le_of_ble_eq_true rfl) (Nat.le_of_ble_eq_true rfl) (Nat.le_of_ble_eq_true rfl) rfl (Nat.le_of_ble_eq_true rfl)) (fun r8 M_ h_ => ?_)
          obtain ⟨F8, rfl, h8⟩ := h_
          obtain ⟨rfl, hI8, hK8⟩ := h8
          obtain ⟨R8, hR8⟩ : ∃ R_, R_ = mstR T e 46 46 R7 := ⟨_, rfl⟩
          rw [← hR8] at hI8
          have hle8 : R8.2 ≤ e := by rw [hR8]; exact mstR_le (by decide) hle7
          refine jv_pop X dX2_readsTarget_116 rfl ?_
          refine jv_iload_n X dX2_readsTarget_117 0 rfl ?_
          refine jv_bipush (v := nI 10) X dX2_readsTarget_118 rfl ?_
          refine jv_aload_n X dX2_readsTarget_120 2 rfl ?_
          refine jv_bipush (v := nI 48) X dX2_readsTarget_121 rfl ?_
          refine jv_bipush (v := nI 57) X dX2_readsTarget_123 rfl ?_
          refine jv_calli (jv_runV (As := [.int (nI 48), .int (nI 57)]) (rest := [.int (nI 10), .int ((nI (1000 * (amo (herP T e R1.2)))) + ((nI 100) * (mvl T e 48 R6)))]) X dX2_readsTarget_125 (c_X2_must hO hT3 he hI8 hle8 48 57) (lw_V q2399 q2401 qs81 q100 q2402) hd_X2_must md_M_o rfl (Nat.le_of_ble_eq_true rfl) (Nat.le_of_ble_eq_true rfl) (Nat.le_of_ble_eq_true rfl) (Nat.le_of_ble_eq_true rfl) rfl (Nat.le_of_ble_eq_true rfl)) (fun r9 M_ h_ => ?_)
          obtain ⟨F9, rfl, h9⟩ := h_
          obtain ⟨rfl, hI9, hK9⟩ := h9
          obtain ⟨R9, hR9⟩ : ∃ R_, R_ = mstR T e 48 57 R8 := ⟨_, rfl⟩
          rw [← hR9] at hI9
          have hle9 : R9.2 ≤ e := by rw [hR9]; exact mstR_le (by decide) hle8
          refine jv_imul (w := (nI 10) * (mvl T e 48 R8)) X dX2_readsTarget_128 rfl ?_
          refine jv_iadd (w := ((nI (1000 * (amo (herP T e R1.2)))) + ((nI 100) * (mvl T e 48 R6))) + ((nI 10) * (mvl T e 48 R8))) X dX2_readsTarget_129 rfl ?_
          refine jv_istore_n (lv' := [(2, .int (((nI (1000 * (amo (herP T e R1.2)))) + ((nI 100) * (mvl T e 48 R6))) + ((nI 10) * (mvl T e 48 R8)))), (1, .int (nI (amo (herP T e R1.2)))), (0, .ref o.2.1)]) X dX2_readsTarget_130 rfl (by decide) rfl ?_
          refine jv_aload_n X dX2_readsTarget_131 2 rfl ?_
          refine jm_getF (v := bI R9.1) X dX2_readsTarget_132 24 (by decide) q2034 rfl hI9.2.2.1 ?_
          refine jb_if_eq 168 X dX2_readsTarget_135 (by decide) (fun c135 => ?_) (fun c135 => ?_)
          · skip
            refine jv_aload_n X dX2_readsTarget_168 2 rfl ?_
            refine jv_iconst (v := nI 4) X dX2_readsTarget_169 rfl ?_
            refine jv_iload_n X dX2_readsTarget_170 0 rfl ?_
            refine jv_callv (jv_runV (As := [.int (nI 4), .int (((nI (1000 * (amo (herP T e R1.2)))) + ((nI 100) * (mvl T e 48 R6))) + ((nI 10) * (mvl T e 48 R8)))]) (rest := []) X dX2_readsTarget_171 (c_X2_puts hO hI9.2.2.2 4 (((nI (1000 * (amo (herP T e R1.2)))) + ((nI 100) * (mvl T e 48 R6))) + ((nI 10) * (mvl T e 48 R8))) (by omega)) (lw_V q2391 q2393 qs79 q100 q2394) hd_X2_puts md_M_o rfl (Nat.le_of_ble_eq_true rfl) (Nat.le_of_ble_eq_true rfl) (Nat.le_of_ble_eq_true rfl) (Nat.le_of_ble_eq_true rfl) rfl (Nat.le_of_ble_eq_true rfl)) (fun M_ h_ => ?_)
            obtain ⟨A10, rfl, h10⟩ := h_
            obtain rfl := h10
            have hT10 : ∀ j, j < e → (mdA (mdA (mdA A 25 (5 * m + 3) (mvl T e 97 R)) 25 (5 * m + 4) (nI 0)) 25 (5 * m + 4) (((nI (1000 * (amo (herP T e R1.2)))) + ((nI 100) * (mvl T e 48 R6))) + ((nI 10) * (mvl T e 48 R8)))) 6 j = nI (T j) := fun j hj => (mdA_n (by decide)).trans (hT3 j hj)
            have e5_ : tg5 T e R1 = R9 := by rw [tg5, ← hD6, ← hR7, ← hR8, ← hR9]
            have eM_ : tgM T e R1 = nI (1000 * amo (herP T e R1.2)) + nI 100 * mvl T e 48 R6 + nI 10 * mvl T e 48 R8 := by rw [tgM, tgN, ← hD6, ← hR7, ← hR8]
            have ht_ : tgt T e R = (R9, mvl T e 97 R, (((nI (1000 * (amo (herP T e R1.2)))) + ((nI 100) * (mvl T e 48 R6))) + ((nI 10) * (mvl T e 48 R8)))) := by rw [tgt, ← hR1, if_pos c23, if_neg c33, e5_, eM_, if_neg (Bool.eq_false_iff.mp c135)]
            exact jv_vret X dX2_readsTarget_174 hQ (Nat.le_of_ble_eq_true rfl) (Nat.le_of_ble_eq_true rfl) ⟨_, _, rfl, ⟨by rw [ht_]; exact hI9, (((hK6.tr hK7).tr hK8).tr hK9), fun i hi => by simp only [mdA_i hi], by rw [ht_]; repeat (first | rw [mdA_s] | rw [mdA_o (by omega)]), by rw [ht_]; repeat (first | rw [mdA_s] | rw [mdA_o (by omega)]), fun j hj => by repeat (first | rw [mdA_s] | rw [mdA_o (by omega)])⟩⟩
          · skip
            refine jv_aload_n X dX2_readsTarget_138 2 rfl ?_
            refine jv_ask (jv_runV (As := []) (rest := []) X dX2_readsTarget_139 (c_X2_here hO hT3 he hI9 hle9) (lw_V q2395 q2397 qs80 q100 q2398) hd_X2_here md_M_o rfl (Nat.le_of_ble_eq_true rfl) (Nat.le_of_ble_eq_true rfl) (Nat.le_of_ble_eq_true rfl) (Nat.le_of_ble_eq_true rfl) rfl (Nat.le_of_ble_eq_true rfl)) ?_
            refine jv_bipush (v := nI 45) X dX2_readsTarget_142 rfl ?_
            refine jv_icmp_ne 168 X dX2_readsTarget_144 (by decide) (fun c144 => ?_) (fun c144 => ?_)
            · skip
              refine jv_aload_n X dX2_readsTarget_168 2 rfl ?_
              refine jv_iconst (v := nI 4) X dX2_readsTarget_169 rfl ?_
              refine jv_iload_n X dX2_readsTarget_170 0 rfl ?_
              refine jv_callv (jv_runV (As := [.int (nI 4), .int (((nI (1000 * (amo (herP T e R1.2)))) + ((nI 100) * (mvl T e 48 R6))) + ((nI 10) * (mvl T e 48 R8)))]) (rest := []) X dX2_readsTarget_171 (c_X2_puts hO hI9.2.2.2 4 (((nI (1000 * (amo (herP T e R1.2)))) + ((nI 100) * (mvl T e 48 R6))) + ((nI 10) * (mvl T e 48 R8))) (by omega)) (lw_V q2391 q2393 qs79 q100 q2394) hd_X2_puts md_M_o rfl (Nat.le_of_ble_eq_true rfl) (Nat.le_of_ble_eq_true rfl) (Nat.le_of_ble_eq_true rfl) (Nat.le_of_ble_eq_true rfl) rfl (Nat.le_of_ble_eq_true rfl)) (fun M_ h_ => ?_)
              obtain ⟨A12, rfl, h12⟩ := h_
              obtain rfl := h12
              have hT12 : ∀ j, j < e → (mdA (mdA (mdA A 25 (5 * m + 3) (mvl T e 97 R)) 25 (5 * m + 4) (nI 0)) 25 (5 * m + 4) (((nI (1000 * (amo (herP T e R1.2)))) + ((nI 100) * (mvl T e 48 R6))) + ((nI 10) * (mvl T e 48 R8)))) 6 j = nI (T j) := fun j hj => (mdA_n (by decide)).trans (hT3 j hj)
              have e5_ : tg5 T e R1 = R9 := by rw [tg5, ← hD6, ← hR7, ← hR8, ← hR9]
              have eM_ : tgM T e R1 = nI (1000 * amo (herP T e R1.2)) + nI 100 * mvl T e 48 R6 + nI 10 * mvl T e 48 R8 := by rw [tgM, tgN, ← hD6, ← hR7, ← hR8]
              have ht_ : tgt T e R = (R9, mvl T e 97 R, (((nI (1000 * (amo (herP T e R1.2)))) + ((nI 100) * (mvl T e 48 R6))) + ((nI 10) * (mvl T e 48 R8)))) := by rw [tgt, ← hR1, if_pos c23, if_neg c33, e5_, eM_, if_pos c135, if_neg c144]
              exact jv_vret X dX2_readsTarget_174 hQ (Nat.le_of_ble_eq_true rfl) (Nat.le_of_ble_eq_true rfl) ⟨_, _, rfl, ⟨by rw [ht_]; exact hI9, (((hK6.tr hK7).tr hK8).tr hK9), fun i hi => by simp only [mdA_i hi], by rw [ht_]; repeat (first | rw [mdA_s] | rw [mdA_o (by omega)]), by rw [ht_]; repeat (first | rw [mdA_s] | rw [mdA_o (by omega)]), fun j hj => by repeat (first | rw [mdA_s] | rw [mdA_o (by omega)])⟩⟩
            · skip
              refine jv_aload_n X dX2_readsTarget_147 2 rfl ?_
              refine jv_dup X dX2_readsTarget_148 rfl ?_
              refine jm_getF (v := nI R9.2) X dX2_readsTarget_149 22 (by decide) q2032 rfl hI9.1 ?_
              refine jv_iconst (v := nI 1) X dX2_readsTarget_152 rfl ?_
              refine jv_iadd (w := nI (R9.2 + 1)) X dX2_readsTarget_153 (nI_add _ _) ?_
              refine jm_putF (ty := .int) (v := nI (R9.2 + 1)) X hO dX2_readsTarget_154 22 (by decide) q2032 rfl rfl rfl rfl rfl ?_
              obtain ⟨R14, hR14⟩ : ∃ R_ : t_R, R_ = (R9.1, R9.2 + 1) := ⟨_, rfl⟩
              have hI14 : isR (upd F9 22 (nI (R9.2 + 1))) e m R14 := by rw [hR14]; exact ⟨pk_us, ((pk_un (by decide)).trans hI9.2.1), ((pk_un (by decide)).trans hI9.2.2.1), ((pk_un (by decide)).trans hI9.2.2.2)⟩
              have hle14 : R14.2 ≤ e := by rw [hR14]; exact herP_lt (by decide) c144
              have hK14 : ktR F (upd F9 22 (nI (R9.2 + 1))) := fun i a b c => by simp only [upd, if_neg a, if_neg b, if_neg c] <;> exact (((hK6.tr hK7).tr hK8).tr hK9) i a b c
              refine jv_iload_n X dX2_readsTarget_157 0 rfl ?_
              refine jv_aload_n X dX2_readsTarget_158 2 rfl ?_
              refine jv_bipush (v := nI 48) X dX2_readsTarget_159 rfl ?_
              refine jv_bipush (v := nI 57) X dX2_readsTarget_161 rfl ?_
              refine jv_calli (jv_runV (As := [.int (nI 48), .int (nI 57)]) (rest := [.int (((nI (1000 * (amo (herP T e R1.2)))) + ((nI 100) * (mvl T e 48 R6))) + ((nI 10) * (mvl T e 48 R8)))]) X dX2_readsTarget_163 (c_X2_must hO hT3 he hI14 hle14 48 57) (lw_V q2399 q2401 qs81 q100 q2402) hd_X2_must md_M_o rfl (Nat.le_of_ble_eq_true rfl) (Nat.le_of_ble_eq_true rfl) (Nat.le_of_ble_eq_true rfl) (Nat.le_of_ble_eq_true rfl) rfl (Nat.le_of_ble_eq_true rfl)) (fun r15 M_ h_ => ?_)
              obtain ⟨F15, rfl, h15⟩ := h_
              obtain ⟨rfl, hI15, hK15⟩ := h15
              obtain ⟨R15, hR15⟩ : ∃ R_, R_ = mstR T e 48 57 R14 := ⟨_, rfl⟩
              rw [← hR15] at hI15
              have hle15 : R15.2 ≤ e := by rw [hR15]; exact mstR_le (by decide) hle14
              refine jv_iadd (w := (((nI (1000 * (amo (herP T e R1.2)))) + ((nI 100) * (mvl T e 48 R6))) + ((nI 10) * (mvl T e 48 R8))) + (mvl T e 48 R14)) X dX2_readsTarget_166 rfl ?_
              refine jv_istore_n (lv' := [(2, .int ((((nI (1000 * (amo (herP T e R1.2)))) + ((nI 100) * (mvl T e 48 R6))) + ((nI 10) * (mvl T e 48 R8))) + (mvl T e 48 R14))), (1, .int (nI (amo (herP T e R1.2)))), (0, .ref o.2.1)]) X dX2_readsTarget_167 rfl (by decide) rfl ?_
              refine jv_aload_n X dX2_readsTarget_168 2 rfl ?_
              refine jv_iconst (v := nI 4) X dX2_readsTarget_169 rfl ?_
              refine jv_iload_n X dX2_readsTarget_170 0 rfl ?_
              refine jv_callv (jv_runV (As := [.int (nI 4), .int ((((nI (1000 * (amo (herP T e R1.2)))) + ((nI 100) * (mvl T e 48 R6))) + ((nI 10) * (mvl T e 48 R8))) + (mvl T e 48 R14))]) (rest := []) X dX2_readsTarget_171 (c_X2_puts hO hI15.2.2.2 4 ((((nI (1000 * (amo (herP T e R1.2)))) + ((nI 100) * (mvl T e 48 R6))) + ((nI 10) * (mvl T e 48 R8))) + (mvl T e 48 R14)) (by omega)) (lw_V q2391 q2393 qs79 q100 q2394) hd_X2_puts md_M_o rfl (Nat.le_of_ble_eq_true rfl) (Nat.le_of_ble_eq_true rfl) (Nat.le_of_ble_eq_true rfl) (Nat.le_of_ble_eq_true rfl) rfl (Nat.le_of_ble_eq_true rfl)) (fun M_ h_ => ?_)
              obtain ⟨A16, rfl, h16⟩ := h_
              obtain rfl := h16
              have hT16 : ∀ j, j < e → (mdA (mdA (mdA A 25 (5 * m + 3) (mvl T e 97 R)) 25 (5 * m + 4) (nI 0)) 25 (5 * m + 4) ((((nI (1000 * (amo (herP T e R1.2)))) + ((nI 100) * (mvl T e 48 R6))) + ((nI 10) * (mvl T e 48 R8))) + (mvl T e 48 R14))) 6 j = nI (T j) := fun j hj => (mdA_n (by decide)).trans (hT3 j hj)
              have e5_ : tg5 T e R1 = R9 := by rw [tg5, ← hD6, ← hR7, ← hR8, ← hR9]
              have eM_ : tgM T e R1 = nI (1000 * amo (herP T e R1.2)) + nI 100 * mvl T e 48 R6 + nI 10 * mvl T e 48 R8 := by rw [tgM, tgN, ← hD6, ← hR7, ← hR8]
              have ht_ : tgt T e R = (R15, mvl T e 97 R, ((((nI (1000 * (amo (herP T e R1.2)))) + ((nI 100) * (mvl T e 48 R6))) + ((nI 10) * (mvl T e 48 R8))) + (mvl T e 48 R14))) := by rw [tgt, ← hR1, if_pos c23, if_neg c33, e5_, eM_, if_pos c135, if_pos c144, ← hR14, ← hR15]
              exact jv_vret X dX2_readsTarget_174 hQ (Nat.le_of_ble_eq_true rfl) (Nat.le_of_ble_eq_true rfl) ⟨_, _, rfl, ⟨by rw [ht_]; exact hI15, (hK14.tr hK15), fun i hi => by simp only [mdA_i hi], by rw [ht_]; repeat (first | rw [mdA_s] | rw [mdA_o (by omega)]), by rw [ht_]; repeat (first | rw [mdA_s] | rw [mdA_o (by omega)]), fun j hj => by repeat (first | rw [mdA_s] | rw [mdA_o (by omega)])⟩⟩
        refine jb_if_eq 85 X dX2_readsTarget_78 (by decide) (fun c78 => ?_) (fun c78 => ?_)
        · skip
          refine jv_iconst (v := nI 0) X dX2_readsTarget_85 rfl ?_
          exact j86_5 _ (if_neg (Bool.eq_false_iff.mp c78)).symm
        · skip
          refine jv_iconst (v := nI 1) X dX2_readsTarget_81 rfl ?_
          refine jv_goto 86 X dX2_readsTarget_82 (by decide) ?_
          exact j86_5 _ (if_pos c78).symm
      refine jn_if_le 65 X dX2_readsTarget_58 (by decide) (Nat.lt_of_le_of_lt (amo_le _) (by decide)) (fun c58 => ?_) (fun c58 => ?_)
      · skip
        refine jv_iconst (v := nI 0) X dX2_readsTarget_65 rfl ?_
        exact j66_4 _ (if_pos c58).symm
      · skip
        refine jv_iconst (v := nI 1) X dX2_readsTarget_61 rfl ?_
        refine jv_goto 66 X dX2_readsTarget_62 (by decide) ?_
        exact j66_4 _ (if_neg (Nat.pos_iff_ne_zero.mp c58)).symm
    · skip
      refine jv_aload_n X dX2_readsTarget_36 0 rfl ?_
      refine jv_dup X dX2_readsTarget_37 rfl ?_
      refine jm_getF (v := nI R1.2) X dX2_readsTarget_38 22 (by decide) q2032 rfl hI1.1 ?_
      refine jv_iconst (v := nI 1) X dX2_readsTarget_41 rfl ?_
      refine jv_iadd (w := nI (R1.2 + 1)) X dX2_readsTarget_42 (nI_add _ _) ?_
      refine jm_putF (ty := .int) (v := nI (R1.2 + 1)) X hO dX2_readsTarget_43 22 (by decide) q2032 rfl rfl rfl rfl rfl ?_
      obtain ⟨R18, hR18⟩ : ∃ R_ : t_R, R_ = (R1.1, R1.2 + 1) := ⟨_, rfl⟩
      have hI18 : isR (upd F1 22 (nI (R1.2 + 1))) e m R18 := by rw [hR18]; exact ⟨pk_us, ((pk_un (by decide)).trans hI1.2.1), ((pk_un (by decide)).trans hI1.2.2.1), ((pk_un (by decide)).trans hI1.2.2.2)⟩
      have hle18 : R18.2 ≤ e := by rw [hR18]; exact herP_lt (by decide) c33
      have hK18 : ktR F (upd F1 22 (nI (R1.2 + 1))) := fun i a b c => by simp only [upd, if_neg a, if_neg b, if_neg c] <;> exact (ktR.rf.tr hK1) i a b c
      have ht_ : tgt T e R = (R18, mvl T e 97 R, (nI 0)) := by rw [tgt, ← hR1, if_pos c23, if_pos c33, ← hR18]
      exact jv_vret X dX2_readsTarget_46 hQ (Nat.le_of_ble_eq_true rfl) (Nat.le_of_ble_eq_true rfl) ⟨_, _, rfl, ⟨by rw [ht_]; exact hI18, hK18, fun i hi => by simp only [mdA_i hi], by rw [ht_]; repeat (first | rw [mdA_s] | rw [mdA_o (by omega)]), by rw [ht_]; repeat (first | rw [mdA_s] | rw [mdA_o (by omega)]), fun j hj => by repeat (first | rw [mdA_s] | rw [mdA_o (by omega)])⟩⟩
  · skip
    have ht_ : tgt T e R = (R1, mvl T e 97 R, (nI 0)) := by rw [tgt, ← hR1, if_neg (Bool.eq_false_iff.mp c23)]
    exact jv_vret X dX2_readsTarget_26 hQ (Nat.le_of_ble_eq_true rfl) (Nat.le_of_ble_eq_true rfl) ⟨_, _, rfl, ⟨by rw [ht_]; exact hI1, (ktR.rf.tr hK1), fun i hi => by simp only [mdA_i hi], by rw [ht_]; repeat (first | rw [mdA_s] | rw [mdA_o (by omega)]), by rw [ht_]; repeat (first | rw [mdA_s] | rw [mdA_o (by omega)]), fun j hj => by repeat (first | rw [mdA_s] | rw [mdA_o (by omega)])⟩⟩
