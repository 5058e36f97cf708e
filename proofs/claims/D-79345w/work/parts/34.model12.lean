/-! reference, twelfth -/
set_option maxRecDepth 100000
theorem hd_X2_readsItem : jv_dd yX2_readsItem 0 := by unfold jv_dd; decide +kernel
set_option maxHeartbeats 4000000 in
theorem c_X2_readsItem {l : Launch} {G : jv_G} {o : md_O} {F : Nat → Int32} {A : Nat → Nat → Int32} {T : Nat → Nat} {e m : Nat} (hO : md_K G o) (hT : ∀ j, j < e → A 6 j = nI (T j)) (he : e ≤ 60) {R : t_R} (hI : isR F e m R) (hle : R.2 ≤ e)  (hm : 5 * m + 4 < 155) : jv_Ct G l yX2_readsItem cX2_readsItem 1 (none) 3 0 0 67 [.ref o.2.1] (md_M G o F A) (jv_qv G (fun M' => ∃ F' A', M' = md_M G o F' A' ∧ isR F' e (m + 1) (itE T e R) ∧ ktR F F' ∧ (∀ i, i ≠ 25 → A' i = A i) ∧ (∀ j, j < 5 * m → A' 25 j = A 25 j) ∧ A' 25 (5 * m + 0) = nI (itK T e R) ∧ (¬ itK T e R = 0 → A' 25 (5 * m + 1) = mvl T e 97 R ∧ A' 25 (5 * m + 2) = mvl T e 48 (mstR T e 97 102 R)) ∧ ((it3 T e R).1 = true → A' 25 (5 * m + 3) = (tgt T e (it3 T e R)).2.1 ∧ A' 25 (5 * m + 4) = (tgt T e (it3 T e R)).2.2))) := by
  refine jv_Ct.of (lv := [(0, .ref o.2.1)]) (by decide) (Nat.le_of_ble_eq_true rfl) rfl ?_
  intro x Q_ hl_ hQ X
  subst hl_
  refine jv_aload_n X dX2_readsItem_0 0 rfl ?_
  refine jv_iconst (v := nI 0) X dX2_readsItem_1 rfl ?_
  refine jv_iconst (v := nI 0) X dX2_readsItem_2 rfl ?_
  refine jv_callv (jv_runV (As := [.int (nI 0), .int (nI 0)]) (rest := []) X dX2_readsItem_3 (c_X2_puts hO hI.2.2.2 0 (nI 0) (by omega)) (lw_V q2391 q2393 qs79 q100 q2394) hd_X2_puts md_M_o rfl (Nat.le_of_ble_eq_true rfl) (Nat.le_of_ble_eq_true rfl) (Nat.le_of_ble_eq_true rfl) (Nat.le_of_ble_eq_true rfl) rfl (Nat.le_of_ble_eq_true rfl)) (fun M_ h_ => ?_)
  obtain ⟨A1, rfl, h1⟩ := h_
  obtain rfl := h1
  have hT1 : ∀ j, j < e → (mdA A 25 (5 * m + 0) (nI 0)) 6 j = nI (T j) := fun j hj => (mdA_n (by decide)).trans (hT j hj)
  refine jv_aload_n X dX2_readsItem_6 0 rfl ?_
  refine jv_ask (jv_runV (As := []) (rest := []) X dX2_readsItem_7 (c_X2_here hO hT1 he hI hle) (lw_V q2395 q2397 qs80 q100 q2398) hd_X2_here md_M_o rfl (Nat.le_of_ble_eq_true rfl) (Nat.le_of_ble_eq_true rfl) (Nat.le_of_ble_eq_true rfl) (Nat.le_of_ble_eq_true rfl) rfl (Nat.le_of_ble_eq_true rfl)) ?_
  refine jv_bipush (v := nI 62) X dX2_readsItem_10 rfl ?_
  refine jv_icmp_eq 94 X dX2_readsItem_12 (by decide) (fun c12 => ?_) (fun c12 => ?_)
  · skip
    refine jv_aload_n X dX2_readsItem_94 0 rfl ?_
    refine jv_dup X dX2_readsItem_95 rfl ?_
    refine jm_getF (v := nI R.2) X dX2_readsItem_96 22 (by decide) q2032 rfl hI.1 ?_
    refine jv_aload_n X dX2_readsItem_99 0 rfl ?_
    refine jm_getF (v := bI R.1) X dX2_readsItem_100 24 (by decide) q2034 rfl hI.2.2.1 ?_
    have j111_2 : ∀ ad2 : Nat, ad2 = (if R.1 = true then 1 else 0) → jv_J x G 1 Q_ (md_M G o F (mdA A 25 (5 * m + 0) (nI 0))) 0 0 111 [(0, .ref o.2.1)] [.int (nI ad2), .int (nI R.2), .ref o.2.1] := by
      intro ad2 e_ad2
      refine jv_iadd (w := nI (R.2 + ad2)) X dX2_readsItem_111 (nI_add _ _) ?_
      refine jm_putF (ty := .int) (v := nI (R.2 + ad2)) X hO dX2_readsItem_112 22 (by decide) q2032 rfl rfl rfl rfl rfl ?_
      obtain ⟨R3, hR3⟩ : ∃ R_ : t_R, R_ = (R.1, R.2 + ad2) := ⟨_, rfl⟩
      have hI3 : isR (upd F 22 (nI (R.2 + ad2))) e m R3 := by rw [hR3]; exact ⟨pk_us, ((pk_un (by decide)).trans hI.2.1), ((pk_un (by decide)).trans hI.2.2.1), ((pk_un (by decide)).trans hI.2.2.2)⟩
      have hD3 : R3 = it3 T e R := by rw [hR3]; rw [it3, if_pos c12, e_ad2]
      have hle3 : R3.2 ≤ e := by rw [hD3]; exact it3_le hle
      have hK3 : ktR F (upd F 22 (nI (R.2 + ad2))) := fun i a b c => by simp only [upd, if_neg a, if_neg b, if_neg c] <;> exact ktR.rf i a b c
      refine jv_aload_n X dX2_readsItem_115 0 rfl ?_
      refine jm_getF (v := bI R3.1) X dX2_readsItem_116 24 (by decide) q2034 rfl hI3.2.2.1 ?_
      refine jb_if_eq 126 X dX2_readsItem_119 (by decide) (fun c119 => ?_) (fun c119 => ?_)
      · skip
        refine jv_aload_n X dX2_readsItem_126 0 rfl ?_
        refine jv_dup X dX2_readsItem_127 rfl ?_
        refine jm_getF (v := nI m) X dX2_readsItem_128 26 (by decide) q2036 rfl hI3.2.2.2 ?_
        refine jv_iconst (v := nI 1) X dX2_readsItem_131 rfl ?_
        refine jv_iadd (w := nI (m + 1)) X dX2_readsItem_132 (nI_add _ _) ?_
        refine jm_putF (ty := .int) (v := nI (m + 1)) X hO dX2_readsItem_133 26 (by decide) q2036 rfl rfl rfl rfl rfl ?_
        exact jv_vret X dX2_readsItem_136 hQ (Nat.le_of_ble_eq_true rfl) (Nat.le_of_ble_eq_true rfl) ⟨_, _, rfl, ⟨by rw [itE, ← hD3, if_neg (Bool.eq_false_iff.mp c119)]; exact ⟨(pk_un (by decide)).trans hI3.1, (pk_un (by decide)).trans hI3.2.1, (pk_un (by decide)).trans hI3.2.2.1, pk_us⟩, fun i a b c => by simp only [upd, if_neg c]; exact hK3 i a b c, fun i hi => by simp only [mdA_i hi], fun j hj => by repeat (first | rw [mdA_s] | rw [mdA_o (by omega)]), by rw [itK, if_pos c12]; repeat (first | rw [mdA_s] | rw [mdA_o (by omega)]), fun h_ => absurd (show itK T e R = 0 by rw [itK, if_pos c12]) h_, fun h_ => absurd (by rw [← hD3] at h_; exact h_) (show ¬ R3.1 = true from (Bool.eq_false_iff.mp c119))⟩⟩
      · skip
        refine jv_aload_n X dX2_readsItem_122 0 rfl ?_
        refine jv_callv (jv_runV (As := []) (rest := []) X dX2_readsItem_123 (c_X2_readsTarget hO hT1 he hI3 hle3 (by omega)) (lw_V q2403 q2405 qs82 q100 q2406) hd_X2_readsTarget md_M_o rfl (Nat.le_of_ble_eq_true rfl) (Nat.le_of_ble_eq_true rfl) (Nat.le_of_ble_eq_true rfl) (Nat.le_of_ble_eq_true rfl) rfl (Nat.le_of_ble_eq_true rfl)) (fun M_ h_ => ?_)
        obtain ⟨F4, A4, rfl, h4⟩ := h_
        obtain ⟨hI4, hK4, hB4, h3_4, h4_4, hl_4⟩ := h4
        obtain ⟨R4, hR4⟩ : ∃ R_, R_ = (tgt T e R3).1 := ⟨_, rfl⟩
        rw [← hR4] at hI4
        have hle4 : R4.2 ≤ e := by rw [hR4]; exact tgt_le hle3
        refine jv_aload_n X dX2_readsItem_126 0 rfl ?_
        refine jv_dup X dX2_readsItem_127 rfl ?_
        refine jm_getF (v := nI m) X dX2_readsItem_128 26 (by decide) q2036 rfl hI4.2.2.2 ?_
        refine jv_iconst (v := nI 1) X dX2_readsItem_131 rfl ?_
        refine jv_iadd (w := nI (m + 1)) X dX2_readsItem_132 (nI_add _ _) ?_
        refine jm_putF (ty := .int) (v := nI (m + 1)) X hO dX2_readsItem_133 26 (by decide) q2036 rfl rfl rfl rfl rfl ?_
        exact jv_vret X dX2_readsItem_136 hQ (Nat.le_of_ble_eq_true rfl) (Nat.le_of_ble_eq_true rfl) ⟨_, _, rfl, ⟨by rw [itE, ← hD3, if_pos c119, ← hR4]; exact ⟨(pk_un (by decide)).trans hI4.1, (pk_un (by decide)).trans hI4.2.1, (pk_un (by decide)).trans hI4.2.2.1, pk_us⟩, fun i a b c => by simp only [upd, if_neg c]; exact (hK3.tr hK4) i a b c, fun i hi => (hB4 i hi).trans (by simp only [mdA_i hi]), fun j hj => by rw [hl_4 _ (by omega)]; repeat (first | rw [mdA_s] | rw [mdA_o (by omega)]), by rw [itK, if_pos c12]; rw [hl_4 _ (by omega)]; repeat (first | rw [mdA_s] | rw [mdA_o (by omega)]), fun h_ => absurd (show itK T e R = 0 by rw [itK, if_pos c12]) h_, fun _ => ⟨by rw [← hD3]; exact h3_4, by rw [← hD3]; exact h4_4⟩⟩⟩
    refine jb_if_eq 110 X dX2_readsItem_103 (by decide) (fun c103 => ?_) (fun c103 => ?_)
    · skip
      refine jv_iconst (v := nI 0) X dX2_readsItem_110 rfl ?_
      exact j111_2 _ (if_neg (Bool.eq_false_iff.mp c103)).symm
    · skip
      refine jv_iconst (v := nI 1) X dX2_readsItem_106 rfl ?_
      refine jv_goto 111 X dX2_readsItem_107 (by decide) ?_
      exact j111_2 _ (if_pos c103).symm
  · skip
    refine jv_aload_n X dX2_readsItem_15 0 rfl ?_
    refine jv_iconst (v := nI 1) X dX2_readsItem_16 rfl ?_
    refine jv_aload_n X dX2_readsItem_17 0 rfl ?_
    refine jv_bipush (v := nI 97) X dX2_readsItem_18 rfl ?_
    refine jv_bipush (v := nI 102) X dX2_readsItem_20 rfl ?_
    refine jv_calli (jv_runV (As := [.int (nI 97), .int (nI 102)]) (rest := [.int (nI 1), .ref o.2.1]) X dX2_readsItem_22 (c_X2_must hO hT1 he hI hle 97 102) (lw_V q2399 q2401 qs81 q100 q2402) hd_X2_must md_M_o rfl (Nat.le_of_ble_eq_true rfl) (Nat.le_of_ble_eq_true rfl) (Nat.le_of_ble_eq_true rfl) (Nat.le_of_ble_eq_true rfl) rfl (Nat.le_of_ble_eq_true rfl)) (fun r5 M_ h_ => ?_)
    obtain ⟨F5, rfl, h5⟩ := h_
    obtain ⟨rfl, hI5, hK5⟩ := h5
    obtain ⟨R5, hR5⟩ : ∃ R_, R_ = mstR T e 97 102 R := ⟨_, rfl⟩
    rw [← hR5] at hI5
    have hle5 : R5.2 ≤ e := by rw [hR5]; exact mstR_le (by decide) hle
    refine jv_callv (jv_runV (As := [.int (nI 1), .int (mvl T e 97 R)]) (rest := []) X dX2_readsItem_25 (c_X2_puts hO hI5.2.2.2 1 (mvl T e 97 R) (by omega)) (lw_V q2391 q2393 qs79 q100 q2394) hd_X2_puts md_M_o rfl (Nat.le_of_ble_eq_true rfl) (Nat.le_of_ble_eq_true rfl) (Nat.le_of_ble_eq_true rfl) (Nat.le_of_ble_eq_true rfl) rfl (Nat.le_of_ble_eq_true rfl)) (fun M_ h_ => ?_)
    obtain ⟨A6, rfl, h6⟩ := h_
    obtain rfl := h6
    have hT6 : ∀ j, j < e → (mdA (mdA A 25 (5 * m + 0) (nI 0)) 25 (5 * m + 1) (mvl T e 97 R)) 6 j = nI (T j) := fun j hj => (mdA_n (by decide)).trans (hT1 j hj)
    refine jv_aload_n X dX2_readsItem_28 0 rfl ?_
    refine jv_iconst (v := nI 2) X dX2_readsItem_29 rfl ?_
    refine jv_aload_n X dX2_readsItem_30 0 rfl ?_
    refine jv_bipush (v := nI 48) X dX2_readsItem_31 rfl ?_
    refine jv_bipush (v := nI 52) X dX2_readsItem_33 rfl ?_
    refine jv_calli (jv_runV (As := [.int (nI 48), .int (nI 52)]) (rest := [.int (nI 2), .ref o.2.1]) X dX2_readsItem_35 (c_X2_must hO hT6 he hI5 hle5 48 52) (lw_V q2399 q2401 qs81 q100 q2402) hd_X2_must md_M_o rfl (Nat.le_of_ble_eq_true rfl) (Nat.le_of_ble_eq_true rfl) (Nat.le_of_ble_eq_true rfl) (Nat.le_of_ble_eq_true rfl) rfl (Nat.le_of_ble_eq_true rfl)) (fun r7 M_ h_ => ?_)
    obtain ⟨F7, rfl, h7⟩ := h_
    obtain ⟨rfl, hI7, hK7⟩ := h7
    obtain ⟨R7, hR7⟩ : ∃ R_, R_ = mstR T e 48 52 R5 := ⟨_, rfl⟩
    rw [← hR7] at hI7
    have hle7 : R7.2 ≤ e := by rw [hR7]; exact mstR_le (by decide) hle5
    refine jv_callv (jv_runV (As := [.int (nI 2), .int (mvl T e 48 R5)]) (rest := []) X dX2_readsItem_38 (c_X2_puts hO hI7.2.2.2 2 (mvl T e 48 R5) (by omega)) (lw_V q2391 q2393 qs79 q100 q2394) hd_X2_puts md_M_o rfl (Nat.le_of_ble_eq_true rfl) (Nat.le_of_ble_eq_true rfl) (Nat.le_of_ble_eq_true rfl) (Nat.le_of_ble_eq_true rfl) rfl (Nat.le_of_ble_eq_true rfl)) (fun M_ h_ => ?_)
    obtain ⟨A8, rfl, h8⟩ := h_
    obtain rfl := h8
    have hT8 : ∀ j, j < e → (mdA (mdA (mdA A 25 (5 * m + 0) (nI 0)) 25 (5 * m + 1) (mvl T e 97 R)) 25 (5 * m + 2) (mvl T e 48 R5)) 6 j = nI (T j) := fun j hj => (mdA_n (by decide)).trans (hT6 j hj)
    refine jv_aload_n X dX2_readsItem_41 0 rfl ?_
    refine jv_iconst (v := nI 0) X dX2_readsItem_42 rfl ?_
    refine jv_aload_n X dX2_readsItem_43 0 rfl ?_
    refine jv_ask (jv_runV (As := []) (rest := [.int (nI 0), .ref o.2.1]) X dX2_readsItem_44 (c_X2_here hO hT8 he hI7 hle7) (lw_V q2395 q2397 qs80 q100 q2398) hd_X2_here md_M_o rfl (Nat.le_of_ble_eq_true rfl) (Nat.le_of_ble_eq_true rfl) (Nat.le_of_ble_eq_true rfl) (Nat.le_of_ble_eq_true rfl) rfl (Nat.le_of_ble_eq_true rfl)) ?_
    refine jv_bipush (v := nI 33) X dX2_readsItem_47 rfl ?_
    have j57_9 : ∀ kk : Nat, kk = (if (herP T e R7.2) = (nI 33) then 2 else 1) → jv_J x G 1 Q_ (md_M G o F7 (mdA (mdA (mdA A 25 (5 * m + 0) (nI 0)) 25 (5 * m + 1) (mvl T e 97 R)) 25 (5 * m + 2) (mvl T e 48 R5))) 0 0 57 [(0, .ref o.2.1)] [.int (nI kk), .int (nI 0), .ref o.2.1] := by
      intro kk e_kk
      refine jv_callv (jv_runV (As := [.int (nI 0), .int (nI kk)]) (rest := []) X dX2_readsItem_57 (c_X2_puts hO hI7.2.2.2 0 (nI kk) (by omega)) (lw_V q2391 q2393 qs79 q100 q2394) hd_X2_puts md_M_o rfl (Nat.le_of_ble_eq_true rfl) (Nat.le_of_ble_eq_true rfl) (Nat.le_of_ble_eq_true rfl) (Nat.le_of_ble_eq_true rfl) rfl (Nat.le_of_ble_eq_true rfl)) (fun M_ h_ => ?_)
      obtain ⟨A10, rfl, h10⟩ := h_
      obtain rfl := h10
      have hT10 : ∀ j, j < e → (mdA (mdA (mdA (mdA A 25 (5 * m + 0) (nI 0)) 25 (5 * m + 1) (mvl T e 97 R)) 25 (5 * m + 2) (mvl T e 48 R5)) 25 (5 * m + 0) (nI kk)) 6 j = nI (T j) := fun j hj => (mdA_n (by decide)).trans (hT8 j hj)
      refine jv_aload_n X dX2_readsItem_60 0 rfl ?_
      refine jv_aload_n X dX2_readsItem_61 0 rfl ?_
      refine jm_getF (v := bI R7.1) X dX2_readsItem_62 24 (by decide) q2034 rfl hI7.2.2.1 ?_
      have j91_11 : ∀ okb : Bool, okb = (if R7.1 = true then (if (herP T e R7.2) = (nI 33) then true else (if (herP T e R7.2) = (nI 62) then true else false)) else false) → jv_J x G 1 Q_ (md_M G o F7 (mdA (mdA (mdA (mdA A 25 (5 * m + 0) (nI 0)) 25 (5 * m + 1) (mvl T e 97 R)) 25 (5 * m + 2) (mvl T e 48 R5)) 25 (5 * m + 0) (nI kk))) 0 0 91 [(0, .ref o.2.1)] [.int (bI okb), .ref o.2.1] := by
        intro okb e_okb
        refine jm_putF (ty := .boolean) (v := bI okb) X hO dX2_readsItem_91 24 (by decide) q2034 rfl rfl (bI_nar _) (bI_fit _) rfl ?_
        refine jv_aload_n X dX2_readsItem_94 0 rfl ?_
        refine jv_dup X dX2_readsItem_95 rfl ?_
        refine jm_getF (v := nI R7.2) X dX2_readsItem_96 22 (by decide) q2032 rfl ((pk_un (by decide)).trans hI7.1) ?_
        refine jv_aload_n X dX2_readsItem_99 0 rfl ?_
        refine jm_getF (v := bI okb) X dX2_readsItem_100 24 (by decide) q2034 rfl pk_us ?_
        have j111_12 : ∀ ad2 : Nat, ad2 = (if okb = true then 1 else 0) → jv_J x G 1 Q_ (md_M G o (upd F7 24 (bI okb)) (mdA (mdA (mdA (mdA A 25 (5 * m + 0) (nI 0)) 25 (5 * m + 1) (mvl T e 97 R)) 25 (5 * m + 2) (mvl T e 48 R5)) 25 (5 * m + 0) (nI kk))) 0 0 111 [(0, .ref o.2.1)] [.int (nI ad2), .int (nI R7.2), .ref o.2.1] := by
          intro ad2 e_ad2
          refine jv_iadd (w := nI (R7.2 + ad2)) X dX2_readsItem_111 (nI_add _ _) ?_
          refine jm_putF (ty := .int) (v := nI (R7.2 + ad2)) X hO dX2_readsItem_112 22 (by decide) q2032 rfl rfl rfl rfl rfl ?_
          obtain ⟨R13, hR13⟩ : ∃ R_ : t_R, R_ = (okb, R7.2 + ad2) := ⟨_, rfl⟩
          have hI13 : isR (upd (upd F7 24 (bI okb)) 22 (nI (R7.2 + ad2))) e m R13 := by rw [hR13]; exact ⟨pk_us, ((pk_un (by decide)).trans ((pk_un (by decide)).trans hI7.2.1)), ((pk_un (by decide)).trans pk_us), ((pk_un (by decide)).trans ((pk_un (by decide)).trans hI7.2.2.2))⟩
          have eA_ : itA T e R = R7 := by rw [itA, ← hR5, ← hR7]
          have eB_ : itB T e R = okb := by rw [itB, eA_, e_okb]
          have hD13 : R13 = it3 T e R := by rw [hR13]; rw [it3, if_neg c12, eA_, eB_, e_ad2]
          have hle13 : R13.2 ≤ e := by rw [hD13]; exact it3_le hle
          have hK13 : ktR F (upd (upd F7 24 (bI okb)) 22 (nI (R7.2 + ad2))) := fun i a b c => by simp only [upd, if_neg a, if_neg b, if_neg c] <;> exact ((ktR.rf.tr hK5).tr hK7) i a b c
          refine jv_aload_n X dX2_readsItem_115 0 rfl ?_
          refine jm_getF (v := bI R13.1) X dX2_readsItem_116 24 (by decide) q2034 rfl hI13.2.2.1 ?_
          refine jb_if_eq 126 X dX2_readsItem_119 (by decide) (fun c119 => ?_) (fun c119 => ?_)
          · skip
            refine jv_aload_n X dX2_readsItem_126 0 rfl ?_
            refine jv_dup X dX2_readsItem_127 rfl ?_
            refine jm_getF (v := nI m) X dX2_readsItem_128 26 (by decide) q2036 rfl hI13.2.2.2 ?_
            refine jv_iconst (v := nI 1) X dX2_readsItem_131 rfl ?_
            refine jv_iadd (w := nI (m + 1)) X dX2_readsItem_132 (nI_add _ _) ?_
            refine jm_putF (ty := .int) (v := nI (m + 1)) X hO dX2_readsItem_133 26 (by decide) q2036 rfl rfl rfl rfl rfl ?_
            exact jv_vret X dX2_readsItem_136 hQ (Nat.le_of_ble_eq_true rfl) (Nat.le_of_ble_eq_true rfl) ⟨_, _, rfl, ⟨by rw [itE, ← hD13, if_neg (Bool.eq_false_iff.mp c119)]; exact ⟨(pk_un (by decide)).trans hI13.1, (pk_un (by decide)).trans hI13.2.1, (pk_un (by decide)).trans hI13.2.2.1, pk_us⟩, fun i a b c => by simp only [upd, if_neg c]; exact hK13 i a b c, fun i hi => by simp only [mdA_i hi], fun j hj => by repeat (first | rw [mdA_s] | rw [mdA_o (by omega)]), by rw [itK, if_neg c12, eA_, ← e_kk]; repeat (first | rw [mdA_s] | rw [mdA_o (by omega)]), fun _ => ⟨by repeat (first | rw [mdA_s] | rw [mdA_o (by omega)]), by rw [← hR5]; repeat (first | rw [mdA_s] | rw [mdA_o (by omega)])⟩, fun h_ => absurd (by rw [← hD13] at h_; exact h_) (show ¬ R13.1 = true from (Bool.eq_false_iff.mp c119))⟩⟩
          · skip
            refine jv_aload_n X dX2_readsItem_122 0 rfl ?_
            refine jv_callv (jv_runV (As := []) (rest := []) X dX2_readsItem_123 (c_X2_readsTarget hO hT10 he hI13 hle13 (by omega)) (lw_V q2403 q2405 qs82 q100 q2406) hd_X2_readsTarget md_M_o rfl (Nat.le_of_ble_eq_true rfl) (Nat.le_of_ble_eq_true rfl) (Nat.le_of_ble_eq_true rfl) (Nat.le_of_ble_eq_true rfl) rfl (Nat.le_of_ble_eq_true rfl)) (fun M_ h_ => ?_)
            obtain ⟨F14, A14, rfl, h14⟩ := h_
            obtain ⟨hI14, hK14, hB14, h3_14, h4_14, hl_14⟩ := h14
            obtain ⟨R14, hR14⟩ : ∃ R_, R_ = (tgt T e R13).1 := ⟨_, rfl⟩
            rw [← hR14] at hI14
            have hle14 : R14.2 ≤ e := by rw [hR14]; exact tgt_le hle13
            refine jv_aload_n X dX2_readsItem_126 0 rfl ?_
            refine jv_dup X dX2_readsItem_127 rfl ?_
            refine jm_getF (v := nI m) X dX2_readsItem_128 26 (by decide) q2036 rfl hI14.2.2.2 ?_
            refine jv_iconst (v := nI 1) X dX2_readsItem_131 rfl ?_
            refine jv_iadd (w := nI (m + 1)) X dX2_readsItem_132 (nI_add _ _) ?_
            refine jm_putF (ty := .int) (v := nI (m + 1)) X hO dX2_readsItem_133 26 (by decide) q2036 rfl rfl rfl rfl rfl ?_
            exact jv_vret X dX2_readsItem_136 hQ (Nat.le_of_ble_eq_true rfl) (Nat.le_of_ble_eq_true rfl) ⟨_, _, rfl, ⟨by rw [itE, ← hD13, if_pos c119, ← hR14]; exact ⟨(pk_un (by decide)).trans hI14.1, (pk_un (by decide)).trans hI14.2.1, (pk_un (by decide)).trans hI14.2.2.1, pk_us⟩, fun i a b c => by simp only [upd, if_neg c]; exact (hK13.tr hK14) i a b c, fun i hi => (hB14 i hi).trans (by simp only [mdA_i hi]), fun j hj => by rw [hl_14 _ (by omega)]; repeat (first | rw [mdA_s] | rw [mdA_o (by omega)]), by rw [itK, if_neg c12, eA_, ← e_kk]; rw [hl_14 _ (by omega)]; repeat (first | rw [mdA_s] | rw [mdA_o (by omega)]), fun _ => ⟨by rw [hl_14 _ (by omega)]; repeat (first | rw [mdA_s] | rw [mdA_o (by omega)]), by rw [← hR5]; rw [hl_14 _ (by omega)]; repeat (first | rw [mdA_s] | rw [mdA_o (by omega)])⟩, fun _ => ⟨by rw [← hD13]; exact h3_14, by rw [← hD13]; exact h4_14⟩⟩⟩
        refine jb_if_eq 110 X dX2_readsItem_103 (by decide) (fun c103 => ?_) (fun c103 => ?_)
        · skip
          refine jv_iconst (v := nI 0) X dX2_readsItem_110 rfl ?_
          exact j111_12 _ (if_neg (Bool.eq_false_iff.mp c103)).symm
        · skip
          refine jv_iconst (v := nI 1) X dX2_readsItem_106 rfl ?_
          refine jv_goto 111 X dX2_readsItem_107 (by decide) ?_
          exact j111_12 _ (if_pos c103).symm
      refine jb_if_eq 90 X dX2_readsItem_65 (by decide) (fun c65 => ?_) (fun c65 => ?_)
      · skip
        refine jv_iconst (v := nI 0) X dX2_readsItem_90 rfl ?_
        exact j91_11 _ (if_neg (Bool.eq_false_iff.mp c65)).symm
      · skip
        refine jv_aload_n X dX2_readsItem_68 0 rfl ?_
        refine jv_ask (jv_runV (As := []) (rest := [.ref o.2.1]) X dX2_readsItem_69 (c_X2_here hO hT10 he hI7 hle7) (lw_V q2395 q2397 qs80 q100 q2398) hd_X2_here md_M_o rfl (Nat.le_of_ble_eq_true rfl) (Nat.le_of_ble_eq_true rfl) (Nat.le_of_ble_eq_true rfl) (Nat.le_of_ble_eq_true rfl) rfl (Nat.le_of_ble_eq_true rfl)) ?_
        refine jv_bipush (v := nI 33) X dX2_readsItem_72 rfl ?_
        refine jv_icmp_eq 86 X dX2_readsItem_74 (by decide) (fun c74 => ?_) (fun c74 => ?_)
        · skip
          refine jv_iconst (v := nI 1) X dX2_readsItem_86 rfl ?_
          refine jv_goto 91 X dX2_readsItem_87 (by decide) ?_
          exact j91_11 _ ((if_pos c65).trans (if_pos c74)).symm
        · skip
          refine jv_aload_n X dX2_readsItem_77 0 rfl ?_
          refine jv_ask (jv_runV (As := []) (rest := [.ref o.2.1]) X dX2_readsItem_78 (c_X2_here hO hT10 he hI7 hle7) (lw_V q2395 q2397 qs80 q100 q2398) hd_X2_here md_M_o rfl (Nat.le_of_ble_eq_true rfl) (Nat.le_of_ble_eq_true rfl) (Nat.le_of_ble_eq_true rfl) (Nat.le_of_ble_eq_true rfl) rfl (Nat.le_of_ble_eq_true rfl)) ?_
          refine jv_bipush (v := nI 62) X dX2_readsItem_81 rfl ?_
          refine jv_icmp_ne 90 X dX2_readsItem_83 (by decide) (fun c83 => ?_) (fun c83 => ?_)
          · skip
            refine jv_iconst (v := nI 0) X dX2_readsItem_90 rfl ?_
            exact j91_11 _ (((if_pos c65).trans (if_neg c74)).trans (if_neg c83)).symm
          · skip
            refine jv_iconst (v := nI 1) X dX2_readsItem_86 rfl ?_
            refine jv_goto 91 X dX2_readsItem_87 (by decide) ?_
            exact j91_11 _ (((if_pos c65).trans (if_neg c74)).trans (if_pos c83)).symm
    refine jv_icmp_ne 56 X dX2_readsItem_49 (by decide) (fun c49 => ?_) (fun c49 => ?_)
    · skip
      refine jv_iconst (v := nI 1) X dX2_readsItem_56 rfl ?_
      exact j57_9 _ (if_neg c49).symm
    · skip
      refine jv_iconst (v := nI 2) X dX2_readsItem_52 rfl ?_
      refine jv_goto 57 X dX2_readsItem_53 (by decide) ?_
      exact j57_9 _ (if_pos c49).symm
