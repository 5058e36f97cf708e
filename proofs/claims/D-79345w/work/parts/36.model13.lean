/-! reference, thirteenth -/
set_option maxRecDepth 100000
theorem mstR_ge' {T : Nat → Nat} {e lo hi : Nat} {R : t_R} : R.2 ≤ (mstR T e lo hi R).2 := Nat.le_add_right _ _
theorem tgt_ge {T : Nat → Nat} {e : Nat} {R : t_R} : R.2 ≤ (tgt T e R).1.2 := by
  have h1 : R.2 ≤ (mstR T e 97 102 R).2 := mstR_ge'
  have hk : ∀ Q : t_R, Q.2 ≤ (tgK T e Q).2 := fun Q => Nat.le_add_right _ _
  have h5 : ∀ Q : t_R, Q.2 ≤ (tg5 T e Q).2 := fun Q => Nat.le_trans (hk Q) (Nat.le_trans mstR_ge' (Nat.le_trans mstR_ge' mstR_ge'))
  have h6 := h5 (mstR T e 97 102 R)
  unfold tgt
  split
  · split
    · show _ ≤ (mstR T e 97 102 R).2 + 1; omega
    · split
      · split
        · exact Nat.le_trans (Nat.le_trans h1 (Nat.le_trans h6 (Nat.le_succ _))) (mstR_ge' (R := ((tg5 T e (mstR T e 97 102 R)).1, (tg5 T e (mstR T e 97 102 R)).2 + 1)))
        · exact Nat.le_trans h1 h6
      · exact Nat.le_trans h1 h6
  · exact h1
theorem it3_ge {T : Nat → Nat} {e : Nat} {R : t_R} : R.2 ≤ (it3 T e R).2 := by
  unfold it3
  split
  · exact Nat.le_add_right _ _
  · exact Nat.le_trans (Nat.le_trans mstR_ge' mstR_ge') (Nat.le_add_right _ _)
theorem itE_ge {T : Nat → Nat} {e : Nat} {R : t_R} : R.2 ≤ (itE T e R).2 := by
  unfold itE
  split
  · exact Nat.le_trans it3_ge tgt_ge
  · exact it3_ge
theorem hd_X2_readsText : jv_dd yX2_readsText 0 := by unfold jv_dd; decide +kernel
set_option maxHeartbeats 4000000 in
theorem c_X2_readsText {l : Launch} {G : jv_G} {o : md_O} {F : Nat → Int32} {A : Nat → Nat → Int32} {T : Nat → Nat} {e : Nat} (hO : md_K G o) (hT : ∀ j, j < e → A 6 j = nI (T j)) (he : e ≤ 60)  (h7 : F 7 = nI e) : jv_Ct G l yX2_readsText cX2_readsText 1 (some .boolean) 4 0 0 87 [.ref o.2.1] (md_M G o F A) (jv_qi G (fun r M' => ∃ F' A', M' = md_M G o F' A' ∧ r = bI (rdO T e) ∧ F' 7 = nI 0 ∧ F' 22 = nI (rd T e).1.2 ∧ F' 26 = nI (rd T e).2 ∧ (rd T e).2 ≤ 16 ∧ (rd T e).1.2 ≤ e ∧ (∀ i, i ≠ 7 → i ≠ 22 → i ≠ 23 → i ≠ 24 → i ≠ 26 → F' i = F i) ∧ (∀ i, i ≠ 25 → A' i = A i) ∧ (rdO T e = true → ∀ i, i < (rd T e).2 → itG T e (A' 25) i))) := by
  refine jv_Ct.of (lv := [(0, .ref o.2.1)]) (by decide) (Nat.le_of_ble_eq_true rfl) rfl ?_
  intro x Q_ hl_ hQ X
  subst hl_
  refine jv_aload_n X dX2_readsText_0 0 rfl ?_
  refine jv_iconst (v := nI 0) X dX2_readsText_1 rfl ?_
  refine jm_putF (ty := .int) (v := nI 0) X hO dX2_readsText_2 22 (by decide) q2032 rfl rfl rfl rfl rfl ?_
  refine jv_aload_n X dX2_readsText_5 0 rfl ?_
  refine jv_aload_n X dX2_readsText_6 0 rfl ?_
  refine jm_getF (v := nI e) X dX2_readsText_7 7 (by decide) q2017 rfl ((pk_un (by decide)).trans h7) ?_
  refine jm_putF (ty := .int) (v := nI e) X hO dX2_readsText_10 23 (by decide) q2033 rfl rfl rfl rfl rfl ?_
  refine jv_aload_n X dX2_readsText_13 0 rfl ?_
  refine jv_iconst (v := nI 0) X dX2_readsText_14 rfl ?_
  refine jm_putF (ty := .int) (v := nI 0) X hO dX2_readsText_15 7 (by decide) q2017 rfl rfl rfl rfl rfl ?_
  refine jv_aload_n X dX2_readsText_18 0 rfl ?_
  refine jv_iconst (v := nI 0) X dX2_readsText_19 rfl ?_
  refine jm_putF (ty := .int) (v := nI 0) X hO dX2_readsText_20 26 (by decide) q2036 rfl rfl rfl rfl rfl ?_
  refine jv_aload_n X dX2_readsText_23 0 rfl ?_
  refine jv_iconst (v := nI 1) X dX2_readsText_24 rfl ?_
  refine jm_putF (ty := .boolean) (v := bI true) X hO dX2_readsText_25 24 (by decide) q2034 rfl rfl (bI_nar _) (bI_fit _) rfl ?_
  have hI0 : isR (upd (upd (upd (upd (upd F 22 (nI 0)) 23 (nI e)) 7 (nI 0)) 26 (nI 0)) 24 (bI true)) e 0 (true, 0) := ⟨((pk_un (by decide)).trans ((pk_un (by decide)).trans ((pk_un (by decide)).trans ((pk_un (by decide)).trans pk_us)))), ((pk_un (by decide)).trans ((pk_un (by decide)).trans ((pk_un (by decide)).trans pk_us))), pk_us, ((pk_un (by decide)).trans pk_us)⟩
  obtain ⟨F0, hF0⟩ : ∃ F_, F_ = upd (upd (upd (upd (upd F 22 (nI 0)) 23 (nI e)) 7 (nI 0)) 26 (nI 0)) 24 (bI true) := ⟨_, rfl⟩
  rw [← hF0] at hI0 ⊢
  obtain ⟨R0, hR0⟩ : ∃ R_ : t_R, R_ = (true, 0) := ⟨_, rfl⟩
  rw [← hR0] at hI0
  have hle0 : R0.2 ≤ e := by rw [hR0]; exact Nat.zero_le _
  refine jv_aload_n X dX2_readsText_28 0 rfl ?_
  refine jv_callv (jv_runV (As := []) (rest := []) X dX2_readsText_29 (c_X2_readsItem hO hT he hI0 hle0 (by omega)) (lw_V q2387 q2389 qs78 q100 q2390) hd_X2_readsItem md_M_o rfl (Nat.le_of_ble_eq_true rfl) (Nat.le_of_ble_eq_true rfl) (Nat.le_of_ble_eq_true rfl) (Nat.le_of_ble_eq_true rfl) rfl (Nat.le_of_ble_eq_true rfl)) (fun M_ h_ => ?_)
  obtain ⟨F1, A1, rfl, h1⟩ := h_
  obtain ⟨hI1, hK1, hB1, hl1, h0_1, h1_1, h3_1⟩ := h1
  obtain ⟨R1, hR1⟩ : ∃ R_, R_ = itE T e R0 := ⟨_, rfl⟩
  rw [← hR1] at hI1
  have hle1 : R1.2 ≤ e := by rw [hR1]; exact itE_le hle0
  have hT1 : ∀ j, j < e → A1 6 j = nI (T j) := fun j hj => by rw [hB1 6 (by decide)]; exact hT j hj
  have lp32_2 : ∀ (d_32 : Nat) (m : Nat) (R : t_R) (F1 : Nat → Int32) (A1 : Nat → Nat → Int32) (f : Nat), 1 ≤ m → m ≤ 16 → R = itE T e (true, itS T e (m - 1)) → (R.1 = true → 4 * m ≤ R.2 + 1) → (R.1 = true → ∀ i, i < m → itG T e (A1 25) i) → rdL T e f R m = rdL T e 60 (itE T e (true, 0)) 1 → e - R.2 ≤ f → isR F1 e m R → R.2 ≤ e → (∀ j, j < e → A1 6 j = nI (T j)) → ktR F0 F1 → (∀ i, i ≠ 25 → A1 i = A i) → f < d_32 → jv_J x G 1 Q_ (md_M G o F1 A1) 0 0 32 [(0, .ref o.2.1)] [] := by
    intro d_32
    induction d_32 with
    | zero => intro m R F1 A1 f hm1 hm2 hs1 h41 hG1 hf1 hfe hI1 hle1 hT1 hK1 hB1 hm_32; exact absurd hm_32 (Nat.not_lt_zero _)
    | succ d_32 ih_32 =>
      intro m R F1 A1 f hm1 hm2 hs1 h41 hG1 hf1 hfe hI1 hle1 hT1 hK1 hB1 hm_32
      refine jv_aload_n X dX2_readsText_32 0 rfl ?_
      refine jm_getF (v := bI R.1) X dX2_readsText_33 24 (by decide) q2034 rfl hI1.2.2.1 ?_
      refine jb_if_eq 65 X dX2_readsText_36 (by decide) (fun c36 => ?_) (fun c36 => ?_)
      · skip
        have hrd_ : rd T e = (R, m) := by rw [rd, ← hf1]; exact rdL_x (fun z => absurd z.1 (Bool.eq_false_iff.mp c36)) _
        refine jv_aload_n X dX2_readsText_65 0 rfl ?_
        refine jm_getF (v := bI R.1) X dX2_readsText_66 24 (by decide) q2034 rfl hI1.2.2.1 ?_
        have j88_3 : ∀ rv : Bool, rv = (if R.1 = true then (if R.2 = e then true else false) else false) → jv_J x G 1 Q_ (md_M G o F1 A1) 0 0 88 [(0, .ref o.2.1)] [.int (bI rv)] := by
          intro rv e_rv
          exact jv_iret (v := bI rv) X dX2_readsText_88 (bI_nar _) hQ (Nat.le_of_ble_eq_true rfl) (Nat.le_of_ble_eq_true rfl) ⟨_, _, rfl, ⟨by rw [rdO, hrd_, ← e_rv], (hK1 7 (by decide) (by decide) (by decide)).trans (by rw [hF0]; simp [upd]), by rw [hrd_]; exact hI1.1, by rw [hrd_]; exact hI1.2.2.2, by rw [hrd_]; exact hm2, by rw [hrd_]; exact hle1, fun i a b c d z => by rw [hK1 i b d z, hF0]; simp [upd, a, b, c, d, z], hB1, fun z q hq => by rw [rdO, hrd_] at z; rw [hrd_] at hq; exact hG1 (by by_cases y : R.1 = true; exact y; simp [y] at z) q hq⟩⟩
        refine jb_if_eq 87 X dX2_readsText_69 (by decide) (fun c69 => ?_) (fun c69 => ?_)
        · skip
          refine jv_iconst (v := nI 0) X dX2_readsText_87 rfl ?_
          exact j88_3 _ (if_neg (Bool.eq_false_iff.mp c69)).symm
        · skip
          refine jv_aload_n X dX2_readsText_72 0 rfl ?_
          refine jm_getF (v := nI R.2) X dX2_readsText_73 22 (by decide) q2032 rfl hI1.1 ?_
          refine jv_aload_n X dX2_readsText_76 0 rfl ?_
          refine jm_getF (v := nI e) X dX2_readsText_77 23 (by decide) q2033 rfl hI1.2.1 ?_
          refine jn_icmp_ne 87 X dX2_readsText_80 (by decide) (by omega) (by omega) (fun c80 => ?_) (fun c80 => ?_)
          · skip
            refine jv_iconst (v := nI 0) X dX2_readsText_87 rfl ?_
            exact j88_3 _ ((if_pos c69).trans (if_neg c80)).symm
          · skip
            refine jv_iconst (v := nI 1) X dX2_readsText_83 rfl ?_
            refine jv_goto 88 X dX2_readsText_84 (by decide) ?_
            exact j88_3 _ ((if_pos c69).trans (if_pos c80)).symm
      · skip
        refine jv_aload_n X dX2_readsText_39 0 rfl ?_
        refine jv_ask (jv_runV (As := []) (rest := []) X dX2_readsText_40 (c_X2_here hO hT1 he hI1 hle1) (lw_V q2395 q2397 qs80 q100 q2398) hd_X2_here md_M_o rfl (Nat.le_of_ble_eq_true rfl) (Nat.le_of_ble_eq_true rfl) (Nat.le_of_ble_eq_true rfl) (Nat.le_of_ble_eq_true rfl) rfl (Nat.le_of_ble_eq_true rfl)) ?_
        refine jv_bipush (v := nI 59) X dX2_readsText_43 rfl ?_
        refine jv_icmp_ne 65 X dX2_readsText_45 (by decide) (fun c45 => ?_) (fun c45 => ?_)
        · skip
          have hrd_ : rd T e = (R, m) := by rw [rd, ← hf1]; exact rdL_x (fun z => c45 z.2) _
          refine jv_aload_n X dX2_readsText_65 0 rfl ?_
          refine jm_getF (v := bI R.1) X dX2_readsText_66 24 (by decide) q2034 rfl hI1.2.2.1 ?_
          have j88_4 : ∀ rv : Bool, rv = (if R.1 = true then (if R.2 = e then true else false) else false) → jv_J x G 1 Q_ (md_M G o F1 A1) 0 0 88 [(0, .ref o.2.1)] [.int (bI rv)] := by
            intro rv e_rv
            exact jv_iret (v := bI rv) X dX2_readsText_88 (bI_nar _) hQ (Nat.le_of_ble_eq_true rfl) (Nat.le_of_ble_eq_true rfl) ⟨_, _, rfl, ⟨by rw [rdO, hrd_, ← e_rv], (hK1 7 (by decide) (by decide) (by decide)).trans (by rw [hF0]; simp [upd]), by rw [hrd_]; exact hI1.1, by rw [hrd_]; exact hI1.2.2.2, by rw [hrd_]; exact hm2, by rw [hrd_]; exact hle1, fun i a b c d z => by rw [hK1 i b d z, hF0]; simp [upd, a, b, c, d, z], hB1, fun z q hq => by rw [rdO, hrd_] at z; rw [hrd_] at hq; exact hG1 (by by_cases y : R.1 = true; exact y; simp [y] at z) q hq⟩⟩
          refine jb_if_eq 87 X dX2_readsText_69 (by decide) (fun c69 => ?_) (fun c69 => ?_)
          · skip
            refine jv_iconst (v := nI 0) X dX2_readsText_87 rfl ?_
            exact j88_4 _ (if_neg (Bool.eq_false_iff.mp c69)).symm
          · skip
            refine jv_aload_n X dX2_readsText_72 0 rfl ?_
            refine jm_getF (v := nI R.2) X dX2_readsText_73 22 (by decide) q2032 rfl hI1.1 ?_
            refine jv_aload_n X dX2_readsText_76 0 rfl ?_
            refine jm_getF (v := nI e) X dX2_readsText_77 23 (by decide) q2033 rfl hI1.2.1 ?_
            refine jn_icmp_ne 87 X dX2_readsText_80 (by decide) (by omega) (by omega) (fun c80 => ?_) (fun c80 => ?_)
            · skip
              refine jv_iconst (v := nI 0) X dX2_readsText_87 rfl ?_
              exact j88_4 _ ((if_pos c69).trans (if_neg c80)).symm
            · skip
              refine jv_iconst (v := nI 1) X dX2_readsText_83 rfl ?_
              refine jv_goto 88 X dX2_readsText_84 (by decide) ?_
              exact j88_4 _ ((if_pos c69).trans (if_pos c80)).symm
        · skip
          refine jv_aload_n X dX2_readsText_48 0 rfl ?_
          refine jv_dup X dX2_readsText_49 rfl ?_
          refine jm_getF (v := nI R.2) X dX2_readsText_50 22 (by decide) q2032 rfl hI1.1 ?_
          refine jv_iconst (v := nI 1) X dX2_readsText_53 rfl ?_
          refine jv_iadd (w := nI (R.2 + 1)) X dX2_readsText_54 (nI_add _ _) ?_
          refine jm_putF (ty := .int) (v := nI (R.2 + 1)) X hO dX2_readsText_55 22 (by decide) q2032 rfl rfl rfl rfl rfl ?_
          obtain ⟨R5, hR5⟩ : ∃ R_ : t_R, R_ = (R.1, R.2 + 1) := ⟨_, rfl⟩
          have hI5 : isR (upd F1 22 (nI (R.2 + 1))) e m R5 := by rw [hR5]; exact ⟨pk_us, ((pk_un (by decide)).trans hI1.2.1), ((pk_un (by decide)).trans hI1.2.2.1), ((pk_un (by decide)).trans hI1.2.2.2)⟩
          have hle5 : R5.2 ≤ e := by rw [hR5]; exact herP_lt (by decide) c45
          have hK5 : ktR F0 (upd F1 22 (nI (R.2 + 1))) := fun i a b c => by simp only [upd, if_neg a, if_neg b, if_neg c] <;> exact hK1 i a b c
          refine jv_aload_n X dX2_readsText_58 0 rfl ?_
          refine jv_callv (jv_runV (As := []) (rest := []) X dX2_readsText_59 (c_X2_readsItem hO hT1 he hI5 hle5 (by omega)) (lw_V q2387 q2389 qs78 q100 q2390) hd_X2_readsItem md_M_o rfl (Nat.le_of_ble_eq_true rfl) (Nat.le_of_ble_eq_true rfl) (Nat.le_of_ble_eq_true rfl) (Nat.le_of_ble_eq_true rfl) rfl (Nat.le_of_ble_eq_true rfl)) (fun M_ h_ => ?_)
          obtain ⟨F6, A6, rfl, h6⟩ := h_
          obtain ⟨hI6, hK6, hB6, hl6, h0_6, h1_6, h3_6⟩ := h6
          obtain ⟨R6, hR6⟩ : ∃ R_, R_ = itE T e R5 := ⟨_, rfl⟩
          rw [← hR6] at hI6
          have hle6 : R6.2 ≤ e := by rw [hR6]; exact itE_le hle5
          have hT6 : ∀ j, j < e → A6 6 j = nI (T j) := fun j hj => by rw [hB6 6 (by decide)]; exact hT1 j hj
          refine jv_goto 32 X dX2_readsText_62 (by decide) ?_
          have hRm_ : R5 = (true, itS T e m) := by rw [hR5, c36]; obtain ⟨m, rfl⟩ : ∃ k, m = k + 1 := ⟨m - 1, by omega⟩; rw [itS, show m = m + 1 - 1 by omega, ← hs1]
          have hR2_ : R5.2 = R.2 + 1 := by rw [hR5]
          have hlt_ := herP_lt (by decide) c45
          have h4_ := h41 c36
          exact ih_32 (m + 1) R6 F6 A6 (f - 1) (by omega) (by omega) (by rw [hR6, hRm_]; rfl) (fun z => by have := itE_t (hR6 ▸ z); rw [← hR6] at this; omega) (fun z q hq => by rcases Nat.lt_or_ge q m with y | y; (exact itG_lo (hG1 c36 q y) y hl6); (rw [show q = m by omega]; exact itG_n hRm_ (hR6 ▸ z) h0_6 h1_6 h3_6)) (by rw [← hf1, rdL_s (by omega) c36 c45, ← hR5, ← hR6]) (by have h_ : R5.2 ≤ R6.2 := (by rw [hR6]; exact itE_ge); omega) hI6 hle6 hT6 (hK5.tr hK6) (fun k hk => (hB6 k hk).trans (hB1 k hk)) (by omega)
  exact lp32_2 (60 + 1) 1 R1 F1 A1 60 (by omega) (by omega) (by rw [hR1, hR0]; rfl) (fun z => by have := itE_t (hR1 ▸ z); rw [← hR1] at this; omega) (fun z q hq => by rw [show q = 0 by omega]; exact itG_n hR0 (hR1 ▸ z) h0_1 h1_1 h3_1) (by rw [hR1, hR0]) (by omega) hI1 hle1 hT1 (ktR.rf.tr hK1) hB1 (Nat.lt_succ_self _)
