/-! reference, fifteenth -/
set_option maxRecDepth 100000
theorem hd_X2_writes : jv_dd yX2_writes 1 := by unfold jv_dd; decide +kernel
set_option maxHeartbeats 4000000 in
theorem c_X2_writes {l : Launch} {G : jv_G} {o : md_O} {F : Nat → Int32} {A : Nat → Nat → Int32} (hO : md_K G o) {L : List Nat} (hw : isW F A L) (c : Nat) (hl : L.length < 120) : jv_Ct G l yX2_writes cX2_writes 2 (none) 0 0 0 0 [.ref o.2.1, .int (nI c)] (md_M G o F A) (jv_qv G (fun M' => ∃ F' A', M' = md_M G o F' A' ∧ isW F' A' (L ++ [c]) ∧ ktW F A F' A')) := by
  refine jv_Ct.of (lv := [(0, .ref o.2.1), (1, .int (nI c))]) (by decide) (Nat.le_of_ble_eq_true rfl) rfl ?_
  intro x Q_ hl_ hQ X
  subst hl_
  refine jv_aload_n X dX2_writes_0 0 rfl ?_
  refine jm_getA X dX2_writes_1 10 (by decide) q2020 rfl ?_
  refine jv_aload_n X dX2_writes_4 0 rfl ?_
  refine jm_getF (v := nI L.length) X dX2_writes_5 11 (by decide) q2021 rfl hw.1 ?_
  refine jv_iload_n X dX2_writes_8 1 rfl ?_
  refine jm_st (v := nI c) X hO dX2_writes_9 10 (by decide) (show L.length < 120 from (by omega)) ?_
  refine jv_aload_n X dX2_writes_10 0 rfl ?_
  refine jv_dup X dX2_writes_11 rfl ?_
  refine jm_getF (v := nI L.length) X dX2_writes_12 11 (by decide) q2021 rfl hw.1 ?_
  refine jv_iconst (v := nI 1) X dX2_writes_15 rfl ?_
  refine jv_iadd (w := nI (L.length + 1)) X dX2_writes_16 (nI_add _ _) ?_
  refine jm_putF (ty := .int) (v := nI (L.length + 1)) X hO dX2_writes_17 11 (by decide) q2021 rfl rfl rfl rfl rfl ?_
  exact jv_vret X dX2_writes_20 hQ (Nat.le_of_ble_eq_true rfl) (Nat.le_of_ble_eq_true rfl) ⟨_, _, rfl, ⟨hw.put c, fun k a => pk_un a, fun k a => mdA_i a⟩⟩
theorem hd_X2_writesNumber : jv_dd yX2_writesNumber 1 := by unfold jv_dd; decide +kernel
set_option maxHeartbeats 4000000 in
theorem c_X2_writesNumber {l : Launch} {G : jv_G} {o : md_O} {F : Nat → Int32} {A : Nat → Nat → Int32} (hO : md_K G o) {L : List Nat} (hw : isW F A L) (v : Nat) (hl : L.length < 119) (hv : v < 2 ^ 31) : jv_Ct G l yX2_writesNumber cX2_writesNumber 2 (none) 1 0 0 21 [.ref o.2.1, .int (nI v)] (md_M G o F A) (jv_qv G (fun M' => ∃ F' A', M' = md_M G o F' A' ∧ isW F' A' (L ++ num v) ∧ ktW F A F' A')) := by
  refine jv_Ct.of (lv := [(0, .ref o.2.1), (1, .int (nI v))]) (by decide) (Nat.le_of_ble_eq_true rfl) rfl ?_
  intro x Q_ hl_ hQ X
  subst hl_
  have hb_L : L.length ≤ L.length := Nat.le_refl _
  refine jv_iload_n X dX2_writesNumber_0 1 rfl ?_
  refine jv_bipush (v := nI 10) X dX2_writesNumber_1 rfl ?_
  refine jn_icmp_lt 17 X dX2_writesNumber_3 (by decide) (by omega) (by decide) (fun c3 => ?_) (fun c3 => ?_)
  · skip
    refine jv_aload_n X dX2_writesNumber_17 0 rfl ?_
    refine jv_bipush (v := nI 48) X dX2_writesNumber_18 rfl ?_
    refine jv_iload_n X dX2_writesNumber_20 1 rfl ?_
    refine jv_bipush (v := nI 10) X dX2_writesNumber_21 rfl ?_
    refine jv_irem (w := nI (v % 10)) X dX2_writesNumber_23 (ni_nz (by decide) (by decide)) (pk_rem (by omega) (by decide) (by decide)) ?_
    refine jv_iadd (w := nI (48 + (v % 10))) X dX2_writesNumber_24 (nI_add _ _) ?_
    refine jv_callv (jv_runV (As := [.int (nI (48 + (v % 10)))]) (rest := []) X dX2_writesNumber_25 (c_X2_writes hO hw (48 + (v % 10)) (by have := hb_L; omega)) (lw_V q2423 q2425 qs85 q100 q2426) hd_X2_writes md_M_o rfl (Nat.le_of_ble_eq_true rfl) (Nat.le_of_ble_eq_true rfl) (Nat.le_of_ble_eq_true rfl) (Nat.le_of_ble_eq_true rfl) rfl (Nat.le_of_ble_eq_true rfl)) (fun M_ h_ => ?_)
    obtain ⟨F1, A1, rfl, h1⟩ := h_
    obtain ⟨hw1, hk1⟩ := h1
    obtain ⟨L1, hL1⟩ : ∃ L_, L_ = L ++ [(48 + (v % 10))] := ⟨_, rfl⟩
    rw [← hL1] at hw1
    have hb1 : L1.length ≤ L.length + 1 := by rw [hL1, List.length_append]; have := hb_L; have h2_ : ([(48 + (v % 10))]).length ≤ 1 := Nat.le_refl _; omega
    have hb_L1 := hb1
    exact jv_vret X dX2_writesNumber_28 hQ (Nat.le_of_ble_eq_true rfl) (Nat.le_of_ble_eq_true rfl) ⟨_, _, rfl, ⟨by rw [num, if_pos c3, ← List.append_assoc, List.append_nil]; rw [hL1] at hw1; exact hw1, (ktW.rf.tr hk1)⟩⟩
  · skip
    refine jv_aload_n X dX2_writesNumber_6 0 rfl ?_
    refine jv_bipush (v := nI 48) X dX2_writesNumber_7 rfl ?_
    refine jv_iload_n X dX2_writesNumber_9 1 rfl ?_
    refine jv_bipush (v := nI 10) X dX2_writesNumber_10 rfl ?_
    refine jv_idiv (w := nI (v / 10)) X dX2_writesNumber_12 (ni_nz (by decide) (by decide)) (pk_div (by omega) (by decide) (by decide)) ?_
    refine jv_iadd (w := nI (48 + (v / 10))) X dX2_writesNumber_13 (nI_add _ _) ?_
    refine jv_callv (jv_runV (As := [.int (nI (48 + (v / 10)))]) (rest := []) X dX2_writesNumber_14 (c_X2_writes hO hw (48 + (v / 10)) (by have := hb_L; omega)) (lw_V q2423 q2425 qs85 q100 q2426) hd_X2_writes md_M_o rfl (Nat.le_of_ble_eq_true rfl) (Nat.le_of_ble_eq_true rfl) (Nat.le_of_ble_eq_true rfl) (Nat.le_of_ble_eq_true rfl) rfl (Nat.le_of_ble_eq_true rfl)) (fun M_ h_ => ?_)
    obtain ⟨F2, A2, rfl, h2⟩ := h_
    obtain ⟨hw2, hk2⟩ := h2
    obtain ⟨L2, hL2⟩ : ∃ L_, L_ = L ++ [(48 + (v / 10))] := ⟨_, rfl⟩
    rw [← hL2] at hw2
    have hb2 : L2.length ≤ L.length + 1 := by rw [hL2, List.length_append]; have := hb_L; have h2_ : ([(48 + (v / 10))]).length ≤ 1 := Nat.le_refl _; omega
    have hb_L2 := hb2
    refine jv_aload_n X dX2_writesNumber_17 0 rfl ?_
    refine jv_bipush (v := nI 48) X dX2_writesNumber_18 rfl ?_
    refine jv_iload_n X dX2_writesNumber_20 1 rfl ?_
    refine jv_bipush (v := nI 10) X dX2_writesNumber_21 rfl ?_
    refine jv_irem (w := nI (v % 10)) X dX2_writesNumber_23 (ni_nz (by decide) (by decide)) (pk_rem (by omega) (by decide) (by decide)) ?_
    refine jv_iadd (w := nI (48 + (v % 10))) X dX2_writesNumber_24 (nI_add _ _) ?_
    refine jv_callv (jv_runV (As := [.int (nI (48 + (v % 10)))]) (rest := []) X dX2_writesNumber_25 (c_X2_writes hO hw2 (48 + (v % 10)) (by have := hb_L2; omega)) (lw_V q2423 q2425 qs85 q100 q2426) hd_X2_writes md_M_o rfl (Nat.le_of_ble_eq_true rfl) (Nat.le_of_ble_eq_true rfl) (Nat.le_of_ble_eq_true rfl) (Nat.le_of_ble_eq_true rfl) rfl (Nat.le_of_ble_eq_true rfl)) (fun M_ h_ => ?_)
    obtain ⟨F3, A3, rfl, h3⟩ := h_
    obtain ⟨hw3, hk3⟩ := h3
    obtain ⟨L3, hL3⟩ : ∃ L_, L_ = L2 ++ [(48 + (v % 10))] := ⟨_, rfl⟩
    rw [← hL3] at hw3
    have hb3 : L3.length ≤ L.length + 1 + 1 := by rw [hL3, List.length_append]; have := hb_L2; have h2_ : ([(48 + (v % 10))]).length ≤ 1 := Nat.le_refl _; omega
    have hb_L3 := hb3
    exact jv_vret X dX2_writesNumber_28 hQ (Nat.le_of_ble_eq_true rfl) (Nat.le_of_ble_eq_true rfl) ⟨_, _, rfl, ⟨by rw [num, if_neg (Nat.not_lt.mpr c3), ← List.append_assoc]; rw [hL3, hL2] at hw3; exact hw3, ((ktW.rf.tr hk2).tr hk3)⟩⟩
theorem hd_X2_writesWord : jv_dd yX2_writesWord 1 := by unfold jv_dd; decide +kernel
set_option maxHeartbeats 4000000 in
theorem c_X2_writesWord {l : Launch} {G : jv_G} {o : md_O} {F : Nat → Int32} {A : Nat → Nat → Int32} (hO : md_K G o) {L : List Nat} (hw : isW F A L) {σ : jk_A} (hG : jk_G G σ) {b N : Nat} {g : Nat → Nat} {s : Nat} (hs_ : ∀ F A, jstr G σ (md_M G o F A) s b N g) (hl : L.length + N ≤ 120) : jv_Ct G l yX2_writesWord cX2_writesWord 3 (none) 4 0 0 85 [.ref o.2.1, .ref s] (md_M G o F A) (jv_qv G (fun M' => ∃ F' A', M' = md_M G o F' A' ∧ isW F' A' (L ++ wd N g N) ∧ ktW F A F' A')) := by
  refine jv_Ct.of (lv := [(0, .ref o.2.1), (1, .ref s)]) (by decide) (Nat.le_of_ble_eq_true rfl) rfl ?_
  intro x Q_ hl_ hQ X
  subst hl_
  refine jv_iconst (v := nI 0) X dX2_writesWord_0 rfl ?_
  refine jv_istore_n (lv' := [(2, .int (nI 0)), (0, .ref o.2.1), (1, .ref s)]) X dX2_writesWord_1 rfl (by decide) rfl ?_
  have lp2_1 : ∀ (d_2 : Nat) (j : Nat) (F1 : Nat → Int32) (A1 : Nat → Nat → Int32) (L1 : List Nat), j ≤ N → isW F1 A1 L1 → ktW F A F1 A1 → L1 = L ++ wd N g j → N - j < d_2 → jv_J x G 3 Q_ (md_M G o F1 A1) 0 0 2 [(0, .ref o.2.1), (1, .ref s), (2, .int (nI j))] [] := by
    intro d_2
    induction d_2 with
    | zero => intro j F1 A1 L1 hj hw1 hk1 hL1 hm_2; exact absurd hm_2 (Nat.not_lt_zero _)
    | succ d_2 ih_2 =>
      intro j F1 A1 L1 hj hw1 hk1 hL1 hm_2
      have hb_L1 : L1.length ≤ L1.length := Nat.le_refl _
      have hs := hs_ F1 A1
      have hn20 := hs.nl
      have hln_ : L1.length = L.length + j := by rw [hL1, List.length_append, wd_len]
      refine jv_iload_n X dX2_writesWord_2 2 rfl ?_
      refine jv_aload_n X dX2_writesWord_3 1 rfl ?_
      refine jv_ask (jv_runVs (As := []) (rest := [.int (nI j)]) X dX2_writesWord_4 hG hs rfl (c_J5_length hG hs) (lw_V q2432 q1566 q2488 q97 q1568) hd_J5_length (Nat.le_of_ble_eq_true rfl) (Nat.le_of_ble_eq_true rfl) (Nat.le_of_ble_eq_true rfl) (Nat.le_of_ble_eq_true rfl) rfl (Nat.le_of_ble_eq_true rfl)) ?_
      refine jn_icmp_ge 25 X dX2_writesWord_7 (by decide) (by omega) (by omega) (fun c7 => ?_) (fun c7 => ?_)
      · skip
        exact jv_vret X dX2_writesWord_25 hQ (Nat.le_of_ble_eq_true rfl) (Nat.le_of_ble_eq_true rfl) ⟨_, _, rfl, ⟨by rw [hL1, show j = N by omega] at hw1; exact hw1, hk1⟩⟩
      · skip
        refine jv_aload_n X dX2_writesWord_10 0 rfl ?_
        refine jv_aload_n X dX2_writesWord_11 1 rfl ?_
        refine jv_iload_n X dX2_writesWord_12 2 rfl ?_
        refine jv_ask (jv_runVs (As := [.int (nI j)]) (rest := [.ref o.2.1]) X dX2_writesWord_13 hG hs rfl (c_J5_charAt hG hs j (by omega)) (lw_V q2433 q1584 q2496 q97 q1586) hd_J5_charAt (Nat.le_of_ble_eq_true rfl) (Nat.le_of_ble_eq_true rfl) (Nat.le_of_ble_eq_true rfl) (Nat.le_of_ble_eq_true rfl) rfl (Nat.le_of_ble_eq_true rfl)) ?_
        refine jv_callv (jv_runV (As := [.int (nI (g j))]) (rest := []) X dX2_writesWord_16 (c_X2_writes hO hw1 (g j) (by have := hb_L1; omega)) (lw_V q2423 q2425 qs85 q100 q2426) hd_X2_writes md_M_o rfl (Nat.le_of_ble_eq_true rfl) (Nat.le_of_ble_eq_true rfl) (Nat.le_of_ble_eq_true rfl) (Nat.le_of_ble_eq_true rfl) rfl (Nat.le_of_ble_eq_true rfl)) (fun M_ h_ => ?_)
        obtain ⟨F2, A2, rfl, h2⟩ := h_
        obtain ⟨hw2, hk2⟩ := h2
        obtain ⟨L2, hL2⟩ : ∃ L_, L_ = L1 ++ [(g j)] := ⟨_, rfl⟩
        rw [← hL2] at hw2
        have hb2 : L2.length ≤ L1.length + 1 := by rw [hL2, List.length_append]; have := hb_L1; have h2_ : ([(g j)]).length ≤ 1 := Nat.le_refl _; omega
        have hb_L2 := hb2
        refine jv_iinc (v := nI (j + 1)) (lv' := [(2, .int (nI (j + 1))), (0, .ref o.2.1), (1, .ref s)]) X dX2_writesWord_19 2 rfl (nI_1 _) (by decide) rfl ?_
        refine jv_goto 2 X dX2_writesWord_22 (by decide) ?_
        refine jv_lv (lv' := [(0, .ref o.2.1), (1, .ref s), (2, .int (nI (j + 1)))]) [1, 2, 0] rfl ?_
        exact ih_2 (j + 1) F2 A2 L2 (by omega) hw2 (hk1.tr hk2) (by rw [hL2, hL1, wd, List.append_assoc]) (by omega)
  refine jv_lv (lv' := [(0, .ref o.2.1), (1, .ref s), (2, .int (nI 0))]) [1, 2, 0] rfl ?_
  exact lp2_1 (N + 1) 0 F A L (Nat.zero_le _) hw ktW.rf (by rw [wd, List.append_nil]) (by omega)
theorem hd_X2_report : jv_dd yX2_report 1 := by unfold jv_dd; decide +kernel
set_option maxHeartbeats 4000000 in
theorem c_X2_report {l : Launch} {G : jv_G} {o : md_O} {F : Nat → Int32} {A : Nat → Nat → Int32} {S : Nat → Nat} {σ : jk_A} (hO : md_K G o) (hG : jk_G G σ) (hS : ∀ j, j < 237 → A 0 j = nI (S j)) {z : t_Z} (hz : isZ F A z) (i : Int32) (hWs : wfS S) : jv_Ct G l yX2_report cX2_report 4 (some .int) 7 0 0 164 [.ref o.2.1, .int i] (md_M G o F A) (jv_qi G (fun r M' => ∃ F' A', M' = md_M G o F' A' ∧ r = (m_report z S i).1 ∧ isZ F' A' (m_report z S i).2)) := by
  refine jv_Ct.of (lv := [(0, .ref o.2.1), (1, .int i)]) (by decide) (Nat.le_of_ble_eq_true rfl) rfl ?_
  intro x Q_ hl_ hQ X
  subst hl_
  have hW := hWs.1
  have hS0 := hW.p
  have hok := okT.ga hW
  have hwf := wfT.ga hWs
  have hn36 : tn (gA S) ≤ 36 := by have := hok.1; omega
  have hrr := hW.r
  refine jv_aload_n X dX2_report_0 0 rfl ?_
  refine jv_callv (jv_runV (As := []) (rest := []) X dX2_report_1 (c_X2_goesAll hO hS hWs) (lw_V q2221 q2223 qs56 q100 q2224) hd_X2_goesAll md_M_o rfl (Nat.le_of_ble_eq_true rfl) (Nat.le_of_ble_eq_true rfl) (Nat.le_of_ble_eq_true rfl) (Nat.le_of_ble_eq_true rfl) rfl (Nat.le_of_ble_eq_true rfl)) (fun M_ h_ => ?_)
  obtain ⟨F1, A1, rfl, hT1, hK1⟩ := h_
  have hS1 := hK1.S hS
  have hk1 := okT.ga hW
  skip
  obtain ⟨FG_, hFG_⟩ : ∃ F_, F_ = F1 := ⟨_, rfl⟩
  obtain ⟨AG_, hAG_⟩ : ∃ A_, A_ = A1 := ⟨_, rfl⟩
  have hTG_ := hT1
  have hSG_ := hS1
  rw [← hFG_, ← hAG_] at hTG_
  rw [← hAG_] at hSG_
  have hKG_ : ktT F A FG_ AG_ := by rw [hFG_, hAG_]; exact hK1
  refine jv_iload_n X dX2_report_4 1 rfl ?_
  refine jv_iconst (v := nI 0) X dX2_report_5 rfl ?_
  refine jv_aload_n X dX2_report_6 0 rfl ?_
  refine jm_getF (v := nI (tn (gA S))) X dX2_report_7 16 (by decide) q2026 rfl hT1.1 ?_
  refine jv_iconst (v := nI 1) X dX2_report_10 rfl ?_
  refine jv_isub (w := (nI (tn (gA S))) - (nI 1)) X dX2_report_11 rfl ?_
  refine jv_ask (jv_runS (As := [.int i, .int (nI 0), .int ((nI (tn (gA S))) - (nI 1))]) (rest := []) X dX2_report_12 (c_X2_in i (nI 0) ((nI (tn (gA S))) - (nI 1))) (lw_S q2112 q2113 q100 q2114) hd_X2_in (Nat.le_of_ble_eq_true rfl) (Nat.le_of_ble_eq_true rfl) (Nat.le_of_ble_eq_true rfl) (Nat.le_of_ble_eq_true rfl) rfl (Nat.le_of_ble_eq_true rfl)) ?_
  refine jb_if_ne 20 X dX2_report_15 (by decide) (fun c15 => ?_) (fun c15 => ?_)
  · skip
    have hq_i : nI (i.toNatClampNeg) = i := (v_in_up (by omega) c15).2
    refine jv_to (lv' := [(0, .ref o.2.1), (1, .int (nI i.toNatClampNeg))]) (st' := []) (by rw [hq_i]) rfl ?_
    have hi0 := (v_in_up (by omega) c15).1
    have hwi := hwf i.toNatClampNeg hi0
    refine jv_aload_n X dX2_report_20 0 rfl ?_
    refine jv_iconst (v := nI 0) X dX2_report_21 rfl ?_
    refine jm_putF (ty := .int) (v := nI 0) X hO dX2_report_22 11 (by decide) q2021 rfl rfl rfl rfl rfl ?_
    obtain ⟨F0_, hF0_⟩ : ∃ F_, F_ = upd F1 11 (nI 0) := ⟨_, rfl⟩
    rw [← hF0_]
    have hkw0 : ktW FG_ AG_ F0_ A1 := by rw [hF0_, hFG_, hAG_]; exact ⟨fun k a => pk_un a, fun _ _ => rfl⟩
    obtain ⟨L0, hL0⟩ : ∃ L_ : List Nat, L_ = [] := ⟨_, rfl⟩
    have hw0 : isW F0_ A1 L0 := by rw [hF0_, hL0]; exact ⟨pk_us, fun j hj => absurd hj (Nat.not_lt_zero _)⟩
    have hb_L0 : L0.length ≤ 0 := by rw [hL0]; exact Nat.le_refl _
    have hT0_ := hTG_.w hkw0
    refine jv_aload_n X dX2_report_25 0 rfl ?_
    refine jv_iload_n X dX2_report_26 1 rfl ?_
    refine jv_callv (jv_runV (As := [.int (nI i.toNatClampNeg)]) (rest := []) X dX2_report_27 (c_X2_writesNumber hO hw0 i.toNatClampNeg (by have := hb_L0; omega) (by omega)) (lw_V q2419 q2421 qs84 q100 q2422) hd_X2_writesNumber md_M_o rfl (Nat.le_of_ble_eq_true rfl) (Nat.le_of_ble_eq_true rfl) (Nat.le_of_ble_eq_true rfl) (Nat.le_of_ble_eq_true rfl) rfl (Nat.le_of_ble_eq_true rfl)) (fun M_ h_ => ?_)
    obtain ⟨F2, A2, rfl, h2⟩ := h_
    obtain ⟨hw2, hk2⟩ := h2
    obtain ⟨L2, hL2⟩ : ∃ L_, L_ = L0 ++ num i.toNatClampNeg := ⟨_, rfl⟩
    rw [← hL2] at hw2
    have hb2 : L2.length ≤ 2 := by rw [hL2, List.length_append]; have := hb_L0; have h2_ : (num i.toNatClampNeg).length ≤ 2 := num_len _; omega
    have hb_L2 := hb2
    have hS2 : ∀ j, j < 237 → A2 0 j = nI (S j) := fun j hj => by rw [hk2.2 0 (by decide)]; exact hS1 j hj
    have hT2 := hT0_.w hk2
    refine jv_aload_n X dX2_report_30 0 rfl ?_
    refine jv_ldcStW X dX2_report_31 (hG.f X).2.1.2.2.2.2.2.1 ?_
    refine jv_callv (jv_runV (As := [.ref (σ.1 1)]) (rest := []) X dX2_report_34 (c_X2_writesWord (N := 4) hO hw2 hG (fun _ _ => (jstr.K (i := 1) (by decide))) (by have := hb_L2; omega)) (lw_V q2428 q2430 qs86 q100 q2431) hd_X2_writesWord md_M_o rfl (Nat.le_of_ble_eq_true rfl) (Nat.le_of_ble_eq_true rfl) (Nat.le_of_ble_eq_true rfl) (Nat.le_of_ble_eq_true rfl) rfl (Nat.le_of_ble_eq_true rfl)) (fun M_ h_ => ?_)
    obtain ⟨F3, A3, rfl, h3⟩ := h_
    obtain ⟨hw3, hk3⟩ := h3
    obtain ⟨L3, hL3⟩ : ∃ L_, L_ = L2 ++ wd 4 (jk_t 1) 4 := ⟨_, rfl⟩
    rw [← hL3] at hw3
    have hb3 : L3.length ≤ 6 := by rw [hL3, List.length_append]; have := hb_L2; have h2_ : (wd 4 (jk_t 1) 4).length ≤ 4 := (by rw [wd_len]; exact Nat.le_refl _); omega
    have hb_L3 := hb3
    have hS3 : ∀ j, j < 237 → A3 0 j = nI (S j) := fun j hj => by rw [hk3.2 0 (by decide)]; exact hS2 j hj
    have hT3 := hT2.w hk3
    refine jv_aload_n X dX2_report_37 0 rfl ?_
    refine jm_getA X dX2_report_38 13 (by decide) q2023 rfl ?_
    refine jv_iload_n X dX2_report_41 1 rfl ?_
    refine jm_ld (v := nI (tb (gA S) i.toNatClampNeg)) X hO dX2_report_42 13 (by decide) (show i.toNatClampNeg < 40 from (by omega)) (hT3.2.2.2.1 _ (by omega)) ?_
    refine jv_bipush (v := nI 100) X dX2_report_43 rfl ?_
    refine jn_icmp_lt 54 X dX2_report_45 (by decide) (by omega) (by decide) (fun c45 => ?_) (fun c45 => ?_)
    · skip
      refine jv_aload_n X dX2_report_54 0 rfl ?_
      refine jv_aload_n X dX2_report_55 0 rfl ?_
      refine jm_getA X dX2_report_56 13 (by decide) q2023 rfl ?_
      refine jv_iload_n X dX2_report_59 1 rfl ?_
      refine jm_ld (v := nI (tb (gA S) i.toNatClampNeg)) X hO dX2_report_60 13 (by decide) (show i.toNatClampNeg < 40 from (by omega)) (hT3.2.2.2.1 _ (by omega)) ?_
      refine jv_bipush (v := nI 100) X dX2_report_61 rfl ?_
      refine jv_irem (w := nI ((tb (gA S) i.toNatClampNeg) % 100)) X dX2_report_63 (ni_nz (by decide) (by decide)) (pk_rem (by omega) (by decide) (by decide)) ?_
      refine jv_callv (jv_runV (As := [.int (nI ((tb (gA S) i.toNatClampNeg) % 100))]) (rest := []) X dX2_report_64 (c_X2_writesNumber hO hw3 ((tb (gA S) i.toNatClampNeg) % 100) (by have := hb_L3; omega) (by omega)) (lw_V q2419 q2421 qs84 q100 q2422) hd_X2_writesNumber md_M_o rfl (Nat.le_of_ble_eq_true rfl) (Nat.le_of_ble_eq_true rfl) (Nat.le_of_ble_eq_true rfl) (Nat.le_of_ble_eq_true rfl) rfl (Nat.le_of_ble_eq_true rfl)) (fun M_ h_ => ?_)
      obtain ⟨F4, A4, rfl, h4⟩ := h_
      obtain ⟨hw4, hk4⟩ := h4
      obtain ⟨L4, hL4⟩ : ∃ L_, L_ = L3 ++ num ((tb (gA S) i.toNatClampNeg) % 100) := ⟨_, rfl⟩
      rw [← hL4] at hw4
      have hb4 : L4.length ≤ 8 := by rw [hL4, List.length_append]; have := hb_L3; have h2_ : (num ((tb (gA S) i.toNatClampNeg) % 100)).length ≤ 2 := num_len _; omega
      have hb_L4 := hb4
      have hS4 : ∀ j, j < 237 → A4 0 j = nI (S j) := fun j hj => by rw [hk4.2 0 (by decide)]; exact hS3 j hj
      have hT4 := hT3.w hk4
      refine jv_aload_n X dX2_report_67 0 rfl ?_
      refine jv_ldcStW X dX2_report_68 (hG.f X).2.1.2.2.2.2.2.2.1 ?_
      refine jv_callv (jv_runV (As := [.ref (σ.1 2)]) (rest := []) X dX2_report_71 (c_X2_writesWord (N := 2) hO hw4 hG (fun _ _ => (jstr.K (i := 2) (by decide))) (by have := hb_L4; omega)) (lw_V q2428 q2430 qs86 q100 q2431) hd_X2_writesWord md_M_o rfl (Nat.le_of_ble_eq_true rfl) (Nat.le_of_ble_eq_true rfl) (Nat.le_of_ble_eq_true rfl) (Nat.le_of_ble_eq_true rfl) rfl (Nat.le_of_ble_eq_true rfl)) (fun M_ h_ => ?_)
      obtain ⟨F5, A5, rfl, h5⟩ := h_
      obtain ⟨hw5, hk5⟩ := h5
      obtain ⟨L5, hL5⟩ : ∃ L_, L_ = L4 ++ wd 2 (jk_t 2) 2 := ⟨_, rfl⟩
      rw [← hL5] at hw5
      have hb5 : L5.length ≤ 10 := by rw [hL5, List.length_append]; have := hb_L4; have h2_ : (wd 2 (jk_t 2) 2).length ≤ 2 := (by rw [wd_len]; exact Nat.le_refl _); omega
      have hb_L5 := hb5
      have hS5 : ∀ j, j < 237 → A5 0 j = nI (S j) := fun j hj => by rw [hk5.2 0 (by decide)]; exact hS4 j hj
      have hT5 := hT4.w hk5
      refine jv_aload_n X dX2_report_74 0 rfl ?_
      refine jv_bipush (v := nI 97) X dX2_report_75 rfl ?_
      refine jv_aload_n X dX2_report_77 0 rfl ?_
      refine jm_getA X dX2_report_78 14 (by decide) q2024 rfl ?_
      refine jv_iload_n X dX2_report_81 1 rfl ?_
      refine jm_ld (v := nI (tp (gA S) i.toNatClampNeg)) X hO dX2_report_82 14 (by decide) (show i.toNatClampNeg < 40 from (by omega)) (hT5.2.2.2.2.1 _ (by omega)) ?_
      refine jv_iadd (w := nI (97 + (tp (gA S) i.toNatClampNeg))) X dX2_report_83 (nI_add _ _) ?_
      refine jv_callv (jv_runV (As := [.int (nI (97 + (tp (gA S) i.toNatClampNeg)))]) (rest := []) X dX2_report_84 (c_X2_writes hO hw5 (97 + (tp (gA S) i.toNatClampNeg)) (by have := hb_L5; omega)) (lw_V q2423 q2425 qs85 q100 q2426) hd_X2_writes md_M_o rfl (Nat.le_of_ble_eq_true rfl) (Nat.le_of_ble_eq_true rfl) (Nat.le_of_ble_eq_true rfl) (Nat.le_of_ble_eq_true rfl) rfl (Nat.le_of_ble_eq_true rfl)) (fun M_ h_ => ?_)
      obtain ⟨F6, A6, rfl, h6⟩ := h_
      obtain ⟨hw6, hk6⟩ := h6
      obtain ⟨L6, hL6⟩ : ∃ L_, L_ = L5 ++ [(97 + (tp (gA S) i.toNatClampNeg))] := ⟨_, rfl⟩
      rw [← hL6] at hw6
      have hb6 : L6.length ≤ 11 := by rw [hL6, List.length_append]; have := hb_L5; have h2_ : ([(97 + (tp (gA S) i.toNatClampNeg))]).length ≤ 1 := Nat.le_refl _; omega
      have hb_L6 := hb6
      have hS6 : ∀ j, j < 237 → A6 0 j = nI (S j) := fun j hj => by rw [hk6.2 0 (by decide)]; exact hS5 j hj
      have hT6 := hT5.w hk6
      refine jv_aload_n X dX2_report_87 0 rfl ?_
      refine jv_ldcStW X dX2_report_88 (hG.f X).2.1.2.2.2.2.2.2.2.1 ?_
      refine jv_callv (jv_runV (As := [.ref (σ.1 3)]) (rest := []) X dX2_report_91 (c_X2_writesWord (N := 6) hO hw6 hG (fun _ _ => (jstr.K (i := 3) (by decide))) (by have := hb_L6; omega)) (lw_V q2428 q2430 qs86 q100 q2431) hd_X2_writesWord md_M_o rfl (Nat.le_of_ble_eq_true rfl) (Nat.le_of_ble_eq_true rfl) (Nat.le_of_ble_eq_true rfl) (Nat.le_of_ble_eq_true rfl) rfl (Nat.le_of_ble_eq_true rfl)) (fun M_ h_ => ?_)
      obtain ⟨F7, A7, rfl, h7⟩ := h_
      obtain ⟨hw7, hk7⟩ := h7
      obtain ⟨L7, hL7⟩ : ∃ L_, L_ = L6 ++ wd 6 (jk_t 3) 6 := ⟨_, rfl⟩
      rw [← hL7] at hw7
      have hb7 : L7.length ≤ 17 := by rw [hL7, List.length_append]; have := hb_L6; have h2_ : (wd 6 (jk_t 3) 6).length ≤ 6 := (by rw [wd_len]; exact Nat.le_refl _); omega
      have hb_L7 := hb7
      have hS7 : ∀ j, j < 237 → A7 0 j = nI (S j) := fun j hj => by rw [hk7.2 0 (by decide)]; exact hS6 j hj
      have hT7 := hT6.w hk7
      refine jv_iconst (v := nI 0) X dX2_report_94 rfl ?_
      refine jv_istore_n (lv' := [(2, .int (nI 0)), (0, .ref o.2.1), (1, .int (nI i.toNatClampNeg))]) X dX2_report_95 rfl (by decide) rfl ?_
      have lp96_8 : ∀ (d_96 : Nat) (v : Nat) (F2 : Nat → Int32) (A2 : Nat → Nat → Int32) (L2 : List Nat), v ≤ 5 → isW F2 A2 L2 → ktW FG_ AG_ F2 A2 → L2 = repA (gA S) i.toNatClampNeg ++ repV S (tp (gA S) i.toNatClampNeg) (tg (gA S) i.toNatClampNeg) v → 5 - v < d_96 → jv_J x G 4 Q_ (md_M G o F2 A2) 0 0 96 [(0, .ref o.2.1), (1, .int (nI i.toNatClampNeg)), (2, .int (nI v))] [] := by
        intro d_96
        induction d_96 with
        | zero => intro v F2 A2 L2 hv hw2 hk2 hL2 hm_96; exact absurd hm_96 (Nat.not_lt_zero _)
        | succ d_96 ih_96 =>
          intro v F2 A2 L2 hv hw2 hk2 hL2 hm_96
          have hb_L2 : L2.length ≤ 18 + 6 * v := by rw [hL2, List.length_append]; have := repA_len (gA S) i.toNatClampNeg; have := repV_len S (tp (gA S) i.toNatClampNeg) (tg (gA S) i.toNatClampNeg) v; omega
          have hT2 := hTG_.w hk2
          have hS2 : ∀ j, j < 237 → A2 0 j = nI (S j) := fun j hj => by rw [hk2.2 0 (by decide)]; exact hSG_ j hj
          refine jv_iload_n X dX2_report_96 2 rfl ?_
          refine jv_iconst (v := nI 5) X dX2_report_97 rfl ?_
          refine jn_icmp_ge 196 X dX2_report_98 (by decide) (by omega) (by decide) (fun c98 => ?_) (fun c98 => ?_)
          · skip
            refine jv_aload_n X dX2_report_196 0 rfl ?_
            refine jm_getA X dX2_report_197 15 (by decide) q2025 rfl ?_
            refine jv_iload_n X dX2_report_200 1 rfl ?_
            refine jm_ld (v := nI (tg (gA S) i.toNatClampNeg)) X hO dX2_report_201 15 (by decide) (show i.toNatClampNeg < 40 from (by omega)) (hT2.2.2.2.2.2 _ (by omega)) ?_
            refine jv_iconst (v := nI 5) X dX2_report_202 rfl ?_
            refine jv_ishr (w := nI ((tg (gA S) i.toNatClampNeg) / 2 ^ 5)) X dX2_report_203 (ni_shr (by omega) (by omega)) ?_
            refine jv_iconst (v := nI 1) X dX2_report_204 rfl ?_
            refine jv_iand (w := nI (((tg (gA S) i.toNatClampNeg) / 2 ^ 5) &&& 1)) X dX2_report_205 (ni_and _ _) ?_
            refine jv_iconst (v := nI 1) X dX2_report_206 rfl ?_
            refine jn_icmp_ne 217 X dX2_report_207 (by decide) (Nat.lt_of_le_of_lt Nat.and_le_right (by decide)) (by decide) (fun c207 => ?_) (fun c207 => ?_)
            · skip
              refine jv_aload_n X dX2_report_217 0 rfl ?_
              refine jm_getF (v := nI L2.length) X dX2_report_218 11 (by decide) q2021 rfl hw2.1 ?_
              have hfin : L2 = rep S (gA S) i.toNatClampNeg := by rw [rep, if_neg c207, hL2, show v = 5 by omega]; rw [List.append_nil]
              exact jv_iret (v := nI L2.length) X dX2_report_221 rfl hQ (Nat.le_of_ble_eq_true rfl) (Nat.le_of_ble_eq_true rfl) ⟨_, _, rfl, (by rw [m_report, if_pos c15]; exact ⟨by rw [hfin], hz.rep (fun k e => (hk2.1 k (by omega)).trans (hKG_.1 k (by omega) (by omega))) (fun k e => (hk2.2 k (by omega)).trans (hKG_.2 k (by omega) (by omega) (by omega) (by omega))) (hfin ▸ hw2)⟩)⟩
            · skip
              refine jv_aload_n X dX2_report_210 0 rfl ?_
              refine jv_ldcStW X dX2_report_211 (hG.f X).2.1.2.2.2.2.2.2.2.2.1 ?_
              refine jv_callv (jv_runV (As := [.ref (σ.1 5)]) (rest := []) X dX2_report_214 (c_X2_writesWord (N := 5) hO hw2 hG (fun _ _ => (jstr.K (i := 5) (by decide))) (by have := hb_L2; omega)) (lw_V q2428 q2430 qs86 q100 q2431) hd_X2_writesWord md_M_o rfl (Nat.le_of_ble_eq_true rfl) (Nat.le_of_ble_eq_true rfl) (Nat.le_of_ble_eq_true rfl) (Nat.le_of_ble_eq_true rfl) rfl (Nat.le_of_ble_eq_true rfl)) (fun M_ h_ => ?_)
              obtain ⟨F9, A9, rfl, h9⟩ := h_
              obtain ⟨hw9, hk9⟩ := h9
              obtain ⟨L9, hL9⟩ : ∃ L_, L_ = L2 ++ wd 5 (jk_t 5) 5 := ⟨_, rfl⟩
              rw [← hL9] at hw9
              have hb9 : L9.length ≤ 18 + 6 * v + 5 := by rw [hL9, List.length_append]; have := hb_L2; have h2_ : (wd 5 (jk_t 5) 5).length ≤ 5 := (by rw [wd_len]; exact Nat.le_refl _); omega
              have hb_L9 := hb9
              have hS9 : ∀ j, j < 237 → A9 0 j = nI (S j) := fun j hj => by rw [hk9.2 0 (by decide)]; exact hS2 j hj
              have hT9 := hT2.w hk9
              refine jv_aload_n X dX2_report_217 0 rfl ?_
              refine jm_getF (v := nI L9.length) X dX2_report_218 11 (by decide) q2021 rfl hw9.1 ?_
              have hfin : L9 = rep S (gA S) i.toNatClampNeg := by rw [hL9]; rw [rep, if_pos c207, hL2, show v = 5 by omega]
              exact jv_iret (v := nI L9.length) X dX2_report_221 rfl hQ (Nat.le_of_ble_eq_true rfl) (Nat.le_of_ble_eq_true rfl) ⟨_, _, rfl, (by rw [m_report, if_pos c15]; exact ⟨by rw [hfin], hz.rep (fun k e => ((hk2.tr hk9).1 k (by omega)).trans (hKG_.1 k (by omega) (by omega))) (fun k e => ((hk2.tr hk9).2 k (by omega)).trans (hKG_.2 k (by omega) (by omega) (by omega) (by omega))) (hfin ▸ hw9)⟩)⟩
          · skip
            refine jv_aload_n X dX2_report_101 0 rfl ?_
            refine jm_getA X dX2_report_102 15 (by decide) q2025 rfl ?_
            refine jv_iload_n X dX2_report_105 1 rfl ?_
            refine jm_ld (v := nI (tg (gA S) i.toNatClampNeg)) X hO dX2_report_106 15 (by decide) (show i.toNatClampNeg < 40 from (by omega)) (hT2.2.2.2.2.2 _ (by omega)) ?_
            refine jv_iload_n X dX2_report_107 2 rfl ?_
            refine jv_ishr (w := nI ((tg (gA S) i.toNatClampNeg) / 2 ^ v)) X dX2_report_108 (ni_shr (by omega) (by omega)) ?_
            refine jv_iconst (v := nI 1) X dX2_report_109 rfl ?_
            refine jv_iand (w := nI (((tg (gA S) i.toNatClampNeg) / 2 ^ v) &&& 1)) X dX2_report_110 (ni_and _ _) ?_
            refine jv_iconst (v := nI 1) X dX2_report_111 rfl ?_
            refine jn_icmp_ne 190 X dX2_report_112 (by decide) (Nat.lt_of_le_of_lt Nat.and_le_right (by decide)) (by decide) (fun c112 => ?_) (fun c112 => ?_)
            · skip
              refine jv_iinc (v := nI (v + 1)) (lv' := [(2, .int (nI (v + 1))), (0, .ref o.2.1), (1, .int (nI i.toNatClampNeg))]) X dX2_report_190 2 rfl (nI_1 _) (by decide) rfl ?_
              refine jv_goto 96 X dX2_report_193 (by decide) ?_
              refine jv_lv (lv' := [(0, .ref o.2.1), (1, .int (nI i.toNatClampNeg)), (2, .int (nI (v + 1)))]) [1, 2, 0] rfl ?_
              exact ih_96 (v + 1) F2 A2 L2 (by omega) hw2 hk2 (by rw [hL2, repV, if_neg c112, List.append_nil]) (by omega)
            · skip
              refine jv_aload_n X dX2_report_115 0 rfl ?_
              refine jv_aload_n X dX2_report_116 0 rfl ?_
              refine jm_getA X dX2_report_117 14 (by decide) q2024 rfl ?_
              refine jv_iload_n X dX2_report_120 1 rfl ?_
              refine jm_ld (v := nI (tp (gA S) i.toNatClampNeg)) X hO dX2_report_121 14 (by decide) (show i.toNatClampNeg < 40 from (by omega)) (hT2.2.2.2.2.1 _ (by omega)) ?_
              refine jv_iconst (v := nI 2) X dX2_report_122 rfl ?_
              refine jv_iload_n X dX2_report_123 2 rfl ?_
              refine jv_iadd (w := nI (2 + v)) X dX2_report_124 (nI_add _ _) ?_
              refine jv_ask (jv_runV (As := [.int (nI (tp (gA S) i.toNatClampNeg)), .int (nI (2 + v))]) (rest := []) X dX2_report_125 (c_X2_of hO hS2 (tp (gA S) i.toNatClampNeg) (2 + v) (by omega) (by omega)) (lw_V q2115 q2117 qs42 q100 q2118) hd_X2_of md_M_o rfl (Nat.le_of_ble_eq_true rfl) (Nat.le_of_ble_eq_true rfl) (Nat.le_of_ble_eq_true rfl) (Nat.le_of_ble_eq_true rfl) rfl (Nat.le_of_ble_eq_true rfl)) ?_
              refine jv_istore_n (lv' := [(3, .int (nI (v_of S (tp (gA S) i.toNatClampNeg) (2 + v)))), (0, .ref o.2.1), (1, .int (nI i.toNatClampNeg)), (2, .int (nI v))]) X dX2_report_128 rfl (by decide) rfl ?_
              have hvr := hW.vr (p := tp (gA S) i.toNatClampNeg) (by omega) (v := v) (by omega)
              refine jv_aload_n X dX2_report_129 1 rfl ?_
              refine jv_bipush (v := nI 32) X dX2_report_130 rfl ?_
              refine jv_callv (jv_runV (As := [.int (nI 32)]) (rest := []) X dX2_report_132 (c_X2_writes hO hw2 32 (by have := hb_L2; omega)) (lw_V q2423 q2425 qs85 q100 q2426) hd_X2_writes md_M_o rfl (Nat.le_of_ble_eq_true rfl) (Nat.le_of_ble_eq_true rfl) (Nat.le_of_ble_eq_true rfl) (Nat.le_of_ble_eq_true rfl) rfl (Nat.le_of_ble_eq_true rfl)) (fun M_ h_ => ?_)
              obtain ⟨F10, A10, rfl, h10⟩ := h_
              obtain ⟨hw10, hk10⟩ := h10
              obtain ⟨L10, hL10⟩ : ∃ L_, L_ = L2 ++ [32] := ⟨_, rfl⟩
              rw [← hL10] at hw10
              have hb10 : L10.length ≤ 18 + 6 * v + 1 := by rw [hL10, List.length_append]; have := hb_L2; have h2_ : ([32]).length ≤ 1 := Nat.le_refl _; omega
              have hb_L10 := hb10
              have hS10 : ∀ j, j < 237 → A10 0 j = nI (S j) := fun j hj => by rw [hk10.2 0 (by decide)]; exact hS2 j hj
              have hT10 := hT2.w hk10
              refine jv_aload_n X dX2_report_135 1 rfl ?_
              refine jv_bipush (v := nI 48) X dX2_report_136 rfl ?_
              refine jv_iload_n X dX2_report_138 0 rfl ?_
              refine jv_bipush (v := nI 100) X dX2_report_139 rfl ?_
              refine jv_idiv (w := nI ((v_of S (tp (gA S) i.toNatClampNeg) (2 + v)) / 100)) X dX2_report_141 (ni_nz (by decide) (by decide)) (pk_div (by omega) (by decide) (by decide)) ?_
              refine jv_iadd (w := nI (48 + ((v_of S (tp (gA S) i.toNatClampNeg) (2 + v)) / 100))) X dX2_report_142 (nI_add _ _) ?_
              refine jv_callv (jv_runV (As := [.int (nI (48 + ((v_of S (tp (gA S) i.toNatClampNeg) (2 + v)) / 100)))]) (rest := []) X dX2_report_143 (c_X2_writes hO hw10 (48 + ((v_of S (tp (gA S) i.toNatClampNeg) (2 + v)) / 100)) (by have := hb_L10; omega)) (lw_V q2423 q2425 qs85 q100 q2426) hd_X2_writes md_M_o rfl (Nat.le_of_ble_eq_true rfl) (Nat.le_of_ble_eq_true rfl) (Nat.le_of_ble_eq_true rfl) (Nat.le_of_ble_eq_true rfl) rfl (Nat.le_of_ble_eq_true rfl)) (fun M_ h_ => ?_)
              obtain ⟨F11, A11, rfl, h11⟩ := h_
              obtain ⟨hw11, hk11⟩ := h11
              obtain ⟨L11, hL11⟩ : ∃ L_, L_ = L10 ++ [(48 + ((v_of S (tp (gA S) i.toNatClampNeg) (2 + v)) / 100))] := ⟨_, rfl⟩
              rw [← hL11] at hw11
              have hb11 : L11.length ≤ 18 + 6 * v + 1 + 1 := by rw [hL11, List.length_append]; have := hb_L10; have h2_ : ([(48 + ((v_of S (tp (gA S) i.toNatClampNeg) (2 + v)) / 100))]).length ≤ 1 := Nat.le_refl _; omega
              have hb_L11 := hb11
              have hS11 : ∀ j, j < 237 → A11 0 j = nI (S j) := fun j hj => by rw [hk11.2 0 (by decide)]; exact hS10 j hj
              have hT11 := hT10.w hk11
              refine jv_aload_n X dX2_report_146 1 rfl ?_
              refine jv_bipush (v := nI 46) X dX2_report_147 rfl ?_
              refine jv_callv (jv_runV (As := [.int (nI 46)]) (rest := []) X dX2_report_149 (c_X2_writes hO hw11 46 (by have := hb_L11; omega)) (lw_V q2423 q2425 qs85 q100 q2426) hd_X2_writes md_M_o rfl (Nat.le_of_ble_eq_true rfl) (Nat.le_of_ble_eq_true rfl) (Nat.le_of_ble_eq_true rfl) (Nat.le_of_ble_eq_true rfl) rfl (Nat.le_of_ble_eq_true rfl)) (fun M_ h_ => ?_)
              obtain ⟨F12, A12, rfl, h12⟩ := h_
              obtain ⟨hw12, hk12⟩ := h12
              obtain ⟨L12, hL12⟩ : ∃ L_, L_ = L11 ++ [46] := ⟨_, rfl⟩
              rw [← hL12] at hw12
              have hb12 : L12.length ≤ 18 + 6 * v + 1 + 1 + 1 := by rw [hL12, List.length_append]; have := hb_L11; have h2_ : ([46]).length ≤ 1 := Nat.le_refl _; omega
              have hb_L12 := hb12
              have hS12 : ∀ j, j < 237 → A12 0 j = nI (S j) := fun j hj => by rw [hk12.2 0 (by decide)]; exact hS11 j hj
              have hT12 := hT11.w hk12
              refine jv_aload_n X dX2_report_152 1 rfl ?_
              refine jv_bipush (v := nI 48) X dX2_report_153 rfl ?_
              refine jv_iload_n X dX2_report_155 0 rfl ?_
              refine jv_bipush (v := nI 10) X dX2_report_156 rfl ?_
              refine jv_idiv (w := nI ((v_of S (tp (gA S) i.toNatClampNeg) (2 + v)) / 10)) X dX2_report_158 (ni_nz (by decide) (by decide)) (pk_div (by omega) (by decide) (by decide)) ?_
              refine jv_bipush (v := nI 10) X dX2_report_159 rfl ?_
              refine jv_irem (w := nI (((v_of S (tp (gA S) i.toNatClampNeg) (2 + v)) / 10) % 10)) X dX2_report_161 (ni_nz (by decide) (by decide)) (pk_rem (by omega) (by decide) (by decide)) ?_
              refine jv_iadd (w := nI (48 + (((v_of S (tp (gA S) i.toNatClampNeg) (2 + v)) / 10) % 10))) X dX2_report_162 (nI_add _ _) ?_
              refine jv_callv (jv_runV (As := [.int (nI (48 + (((v_of S (tp (gA S) i.toNatClampNeg) (2 + v)) / 10) % 10)))]) (rest := []) X dX2_report_163 (c_X2_writes hO hw12 (48 + (((v_of S (tp (gA S) i.toNatClampNeg) (2 + v)) / 10) % 10)) (by have := hb_L12; omega)) (lw_V q2423 q2425 qs85 q100 q2426) hd_X2_writes md_M_o rfl (Nat.le_of_ble_eq_true rfl) (Nat.le_of_ble_eq_true rfl) (Nat.le_of_ble_eq_true rfl) (Nat.le_of_ble_eq_true rfl) rfl (Nat.le_of_ble_eq_true rfl)) (fun M_ h_ => ?_)
              obtain ⟨F13, A13, rfl, h13⟩ := h_
              obtain ⟨hw13, hk13⟩ := h13
              obtain ⟨L13, hL13⟩ : ∃ L_, L_ = L12 ++ [(48 + (((v_of S (tp (gA S) i.toNatClampNeg) (2 + v)) / 10) % 10))] := ⟨_, rfl⟩
              rw [← hL13] at hw13
              have hb13 : L13.length ≤ 18 + 6 * v + 1 + 1 + 1 + 1 := by rw [hL13, List.length_append]; have := hb_L12; have h2_ : ([(48 + (((v_of S (tp (gA S) i.toNatClampNeg) (2 + v)) / 10) % 10))]).length ≤ 1 := Nat.le_refl _; omega
              have hb_L13 := hb13
              have hS13 : ∀ j, j < 237 → A13 0 j = nI (S j) := fun j hj => by rw [hk13.2 0 (by decide)]; exact hS12 j hj
              have hT13 := hT12.w hk13
              refine jv_iload_n X dX2_report_166 0 rfl ?_
              refine jv_bipush (v := nI 10) X dX2_report_167 rfl ?_
              refine jv_irem (w := nI ((v_of S (tp (gA S) i.toNatClampNeg) (2 + v)) % 10)) X dX2_report_169 (ni_nz (by decide) (by decide)) (pk_rem (by omega) (by decide) (by decide)) ?_
              refine jn_if_le 190 X dX2_report_170 (by decide) (by omega) (fun c170 => ?_) (fun c170 => ?_)
              · skip
                refine jv_iinc (v := nI (v + 1)) (lv' := [(2, .int (nI (v + 1))), (3, .int (nI (v_of S (tp (gA S) i.toNatClampNeg) (2 + v)))), (0, .ref o.2.1), (1, .int (nI i.toNatClampNeg))]) X dX2_report_190 3 rfl (nI_1 _) (by decide) rfl ?_
                refine jv_goto 96 X dX2_report_193 (by decide) ?_
                refine jv_lv (lv' := [(0, .ref o.2.1), (1, .int (nI i.toNatClampNeg)), (2, .int (nI (v + 1)))]) [2, 3, 0] rfl ?_
                exact ih_96 (v + 1) F13 A13 L13 (by omega) hw13 ((((hk2.tr hk10).tr hk11).tr hk12).tr hk13) (by rw [hL13, hL12, hL11, hL10, hL2, repV, if_pos c112, ver, if_pos c170]; simp only [List.append_assoc, List.append_nil]) (by omega)
              · skip
                refine jv_aload_n X dX2_report_173 1 rfl ?_
                refine jv_bipush (v := nI 45) X dX2_report_174 rfl ?_
                refine jv_callv (jv_runV (As := [.int (nI 45)]) (rest := []) X dX2_report_176 (c_X2_writes hO hw13 45 (by have := hb_L13; omega)) (lw_V q2423 q2425 qs85 q100 q2426) hd_X2_writes md_M_o rfl (Nat.le_of_ble_eq_true rfl) (Nat.le_of_ble_eq_true rfl) (Nat.le_of_ble_eq_true rfl) (Nat.le_of_ble_eq_true rfl) rfl (Nat.le_of_ble_eq_true rfl)) (fun M_ h_ => ?_)
                obtain ⟨F14, A14, rfl, h14⟩ := h_
                obtain ⟨hw14, hk14⟩ := h14
                obtain ⟨L14, hL14⟩ : ∃ L_, L_ = L13 ++ [45] := ⟨_, rfl⟩
                rw [← hL14] at hw14
                have hb14 : L14.length ≤ 18 + 6 * v + 1 + 1 + 1 + 1 + 1 := by rw [hL14, List.length_append]; have := hb_L13; have h2_ : ([45]).length ≤ 1 := Nat.le_refl _; omega
                have hb_L14 := hb14
                have hS14 : ∀ j, j < 237 → A14 0 j = nI (S j) := fun j hj => by rw [hk14.2 0 (by decide)]; exact hS13 j hj
                have hT14 := hT13.w hk14
                refine jv_aload_n X dX2_report_179 1 rfl ?_
                refine jv_bipush (v := nI 48) X dX2_report_180 rfl ?_
                refine jv_iload_n X dX2_report_182 0 rfl ?_
                refine jv_bipush (v := nI 10) X dX2_report_183 rfl ?_
                refine jv_irem (w := nI ((v_of S (tp (gA S) i.toNatClampNeg) (2 + v)) % 10)) X dX2_report_185 (ni_nz (by decide) (by decide)) (pk_rem (by omega) (by decide) (by decide)) ?_
                refine jv_iadd (w := nI (48 + ((v_of S (tp (gA S) i.toNatClampNeg) (2 + v)) % 10))) X dX2_report_186 (nI_add _ _) ?_
                refine jv_callv (jv_runV (As := [.int (nI (48 + ((v_of S (tp (gA S) i.toNatClampNeg) (2 + v)) % 10)))]) (rest := []) X dX2_report_187 (c_X2_writes hO hw14 (48 + ((v_of S (tp (gA S) i.toNatClampNeg) (2 + v)) % 10)) (by have := hb_L14; omega)) (lw_V q2423 q2425 qs85 q100 q2426) hd_X2_writes md_M_o rfl (Nat.le_of_ble_eq_true rfl) (Nat.le_of_ble_eq_true rfl) (Nat.le_of_ble_eq_true rfl) (Nat.le_of_ble_eq_true rfl) rfl (Nat.le_of_ble_eq_true rfl)) (fun M_ h_ => ?_)
                obtain ⟨F15, A15, rfl, h15⟩ := h_
                obtain ⟨hw15, hk15⟩ := h15
                obtain ⟨L15, hL15⟩ : ∃ L_, L_ = L14 ++ [(48 + ((v_of S (tp (gA S) i.toNatClampNeg) (2 + v)) % 10))] := ⟨_, rfl⟩
                rw [← hL15] at hw15
                have hb15 : L15.length ≤ 18 + 6 * v + 1 + 1 + 1 + 1 + 1 + 1 := by rw [hL15, List.length_append]; have := hb_L14; have h2_ : ([(48 + ((v_of S (tp (gA S) i.toNatClampNeg) (2 + v)) % 10))]).length ≤ 1 := Nat.le_refl _; omega
                have hb_L15 := hb15
                have hS15 : ∀ j, j < 237 → A15 0 j = nI (S j) := fun j hj => by rw [hk15.2 0 (by decide)]; exact hS14 j hj
                have hT15 := hT14.w hk15
                refine jv_iinc (v := nI (v + 1)) (lv' := [(2, .int (nI (v + 1))), (3, .int (nI (v_of S (tp (gA S) i.toNatClampNeg) (2 + v)))), (0, .ref o.2.1), (1, .int (nI i.toNatClampNeg))]) X dX2_report_190 3 rfl (nI_1 _) (by decide) rfl ?_
                refine jv_goto 96 X dX2_report_193 (by decide) ?_
                refine jv_lv (lv' := [(0, .ref o.2.1), (1, .int (nI i.toNatClampNeg)), (2, .int (nI (v + 1)))]) [2, 3, 0] rfl ?_
                exact ih_96 (v + 1) F15 A15 L15 (by omega) hw15 ((((((hk2.tr hk10).tr hk11).tr hk12).tr hk13).tr hk14).tr hk15) (by rw [hL15, hL14, hL13, hL12, hL11, hL10, hL2, repV, if_pos c112, ver, if_neg (Nat.pos_iff_ne_zero.mp c170)]; simp only [List.append_assoc, List.append_nil]) (by omega)
      refine jv_lv (lv' := [(0, .ref o.2.1), (1, .int (nI i.toNatClampNeg)), (2, .int (nI 0))]) [1, 2, 0] rfl ?_
      exact lp96_8 (5 + 1) 0 F7 A7 L7 (Nat.zero_le _) hw7 ((((((hkw0.tr hk2).tr hk3).tr hk4).tr hk5).tr hk6).tr hk7) (by rw [repV, List.append_nil, repA, if_pos c45]; (try simp only [List.append_nil]); rw [hL7, hL6, hL5, hL4, hL3, hL2, hL0]) (by omega)
    · skip
      refine jv_aload_n X dX2_report_48 0 rfl ?_
      refine jv_bipush (v := nI 61) X dX2_report_49 rfl ?_
      refine jv_callv (jv_runV (As := [.int (nI 61)]) (rest := []) X dX2_report_51 (c_X2_writes hO hw3 61 (by have := hb_L3; omega)) (lw_V q2423 q2425 qs85 q100 q2426) hd_X2_writes md_M_o rfl (Nat.le_of_ble_eq_true rfl) (Nat.le_of_ble_eq_true rfl) (Nat.le_of_ble_eq_true rfl) (Nat.le_of_ble_eq_true rfl) rfl (Nat.le_of_ble_eq_true rfl)) (fun M_ h_ => ?_)
      obtain ⟨F16, A16, rfl, h16⟩ := h_
      obtain ⟨hw16, hk16⟩ := h16
      obtain ⟨L16, hL16⟩ : ∃ L_, L_ = L3 ++ [61] := ⟨_, rfl⟩
      rw [← hL16] at hw16
      have hb16 : L16.length ≤ 7 := by rw [hL16, List.length_append]; have := hb_L3; have h2_ : ([61]).length ≤ 1 := Nat.le_refl _; omega
      have hb_L16 := hb16
      have hS16 : ∀ j, j < 237 → A16 0 j = nI (S j) := fun j hj => by rw [hk16.2 0 (by decide)]; exact hS3 j hj
      have hT16 := hT3.w hk16
      refine jv_aload_n X dX2_report_54 0 rfl ?_
      refine jv_aload_n X dX2_report_55 0 rfl ?_
      refine jm_getA X dX2_report_56 13 (by decide) q2023 rfl ?_
      refine jv_iload_n X dX2_report_59 1 rfl ?_
      refine jm_ld (v := nI (tb (gA S) i.toNatClampNeg)) X hO dX2_report_60 13 (by decide) (show i.toNatClampNeg < 40 from (by omega)) (hT16.2.2.2.1 _ (by omega)) ?_
      refine jv_bipush (v := nI 100) X dX2_report_61 rfl ?_
      refine jv_irem (w := nI ((tb (gA S) i.toNatClampNeg) % 100)) X dX2_report_63 (ni_nz (by decide) (by decide)) (pk_rem (by omega) (by decide) (by decide)) ?_
      refine jv_callv (jv_runV (As := [.int (nI ((tb (gA S) i.toNatClampNeg) % 100))]) (rest := []) X dX2_report_64 (c_X2_writesNumber hO hw16 ((tb (gA S) i.toNatClampNeg) % 100) (by have := hb_L16; omega) (by omega)) (lw_V q2419 q2421 qs84 q100 q2422) hd_X2_writesNumber md_M_o rfl (Nat.le_of_ble_eq_true rfl) (Nat.le_of_ble_eq_true rfl) (Nat.le_of_ble_eq_true rfl) (Nat.le_of_ble_eq_true rfl) rfl (Nat.le_of_ble_eq_true rfl)) (fun M_ h_ => ?_)
      obtain ⟨F17, A17, rfl, h17⟩ := h_
      obtain ⟨hw17, hk17⟩ := h17
      obtain ⟨L17, hL17⟩ : ∃ L_, L_ = L16 ++ num ((tb (gA S) i.toNatClampNeg) % 100) := ⟨_, rfl⟩
      rw [← hL17] at hw17
      have hb17 : L17.length ≤ 9 := by rw [hL17, List.length_append]; have := hb_L16; have h2_ : (num ((tb (gA S) i.toNatClampNeg) % 100)).length ≤ 2 := num_len _; omega
      have hb_L17 := hb17
      have hS17 : ∀ j, j < 237 → A17 0 j = nI (S j) := fun j hj => by rw [hk17.2 0 (by decide)]; exact hS16 j hj
      have hT17 := hT16.w hk17
      refine jv_aload_n X dX2_report_67 0 rfl ?_
      refine jv_ldcStW X dX2_report_68 (hG.f X).2.1.2.2.2.2.2.2.1 ?_
      refine jv_callv (jv_runV (As := [.ref (σ.1 2)]) (rest := []) X dX2_report_71 (c_X2_writesWord (N := 2) hO hw17 hG (fun _ _ => (jstr.K (i := 2) (by decide))) (by have := hb_L17; omega)) (lw_V q2428 q2430 qs86 q100 q2431) hd_X2_writesWord md_M_o rfl (Nat.le_of_ble_eq_true rfl) (Nat.le_of_ble_eq_true rfl) (Nat.le_of_ble_eq_true rfl) (Nat.le_of_ble_eq_true rfl) rfl (Nat.le_of_ble_eq_true rfl)) (fun M_ h_ => ?_)
      obtain ⟨F18, A18, rfl, h18⟩ := h_
      obtain ⟨hw18, hk18⟩ := h18
      obtain ⟨L18, hL18⟩ : ∃ L_, L_ = L17 ++ wd 2 (jk_t 2) 2 := ⟨_, rfl⟩
      rw [← hL18] at hw18
      have hb18 : L18.length ≤ 11 := by rw [hL18, List.length_append]; have := hb_L17; have h2_ : (wd 2 (jk_t 2) 2).length ≤ 2 := (by rw [wd_len]; exact Nat.le_refl _); omega
      have hb_L18 := hb18
      have hS18 : ∀ j, j < 237 → A18 0 j = nI (S j) := fun j hj => by rw [hk18.2 0 (by decide)]; exact hS17 j hj
      have hT18 := hT17.w hk18
      refine jv_aload_n X dX2_report_74 0 rfl ?_
      refine jv_bipush (v := nI 97) X dX2_report_75 rfl ?_
      refine jv_aload_n X dX2_report_77 0 rfl ?_
      refine jm_getA X dX2_report_78 14 (by decide) q2024 rfl ?_
      refine jv_iload_n X dX2_report_81 1 rfl ?_
      refine jm_ld (v := nI (tp (gA S) i.toNatClampNeg)) X hO dX2_report_82 14 (by decide) (show i.toNatClampNeg < 40 from (by omega)) (hT18.2.2.2.2.1 _ (by omega)) ?_
      refine jv_iadd (w := nI (97 + (tp (gA S) i.toNatClampNeg))) X dX2_report_83 (nI_add _ _) ?_
      refine jv_callv (jv_runV (As := [.int (nI (97 + (tp (gA S) i.toNatClampNeg)))]) (rest := []) X dX2_report_84 (c_X2_writes hO hw18 (97 + (tp (gA S) i.toNatClampNeg)) (by have := hb_L18; omega)) (lw_V q2423 q2425 qs85 q100 q2426) hd_X2_writes md_M_o rfl (Nat.le_of_ble_eq_true rfl) (Nat.le_of_ble_eq_true rfl) (Nat.le_of_ble_eq_true rfl) (Nat.le_of_ble_eq_true rfl) rfl (Nat.le_of_ble_eq_true rfl)) (fun M_ h_ => ?_)
      obtain ⟨F19, A19, rfl, h19⟩ := h_
      obtain ⟨hw19, hk19⟩ := h19
      obtain ⟨L19, hL19⟩ : ∃ L_, L_ = L18 ++ [(97 + (tp (gA S) i.toNatClampNeg))] := ⟨_, rfl⟩
      rw [← hL19] at hw19
      have hb19 : L19.length ≤ 12 := by rw [hL19, List.length_append]; have := hb_L18; have h2_ : ([(97 + (tp (gA S) i.toNatClampNeg))]).length ≤ 1 := Nat.le_refl _; omega
      have hb_L19 := hb19
      have hS19 : ∀ j, j < 237 → A19 0 j = nI (S j) := fun j hj => by rw [hk19.2 0 (by decide)]; exact hS18 j hj
      have hT19 := hT18.w hk19
      refine jv_aload_n X dX2_report_87 0 rfl ?_
      refine jv_ldcStW X dX2_report_88 (hG.f X).2.1.2.2.2.2.2.2.2.1 ?_
      refine jv_callv (jv_runV (As := [.ref (σ.1 3)]) (rest := []) X dX2_report_91 (c_X2_writesWord (N := 6) hO hw19 hG (fun _ _ => (jstr.K (i := 3) (by decide))) (by have := hb_L19; omega)) (lw_V q2428 q2430 qs86 q100 q2431) hd_X2_writesWord md_M_o rfl (Nat.le_of_ble_eq_true rfl) (Nat.le_of_ble_eq_true rfl) (Nat.le_of_ble_eq_true rfl) (Nat.le_of_ble_eq_true rfl) rfl (Nat.le_of_ble_eq_true rfl)) (fun M_ h_ => ?_)
      obtain ⟨F20, A20, rfl, h20⟩ := h_
      obtain ⟨hw20, hk20⟩ := h20
      obtain ⟨L20, hL20⟩ : ∃ L_, L_ = L19 ++ wd 6 (jk_t 3) 6 := ⟨_, rfl⟩
      rw [← hL20] at hw20
      have hb20 : L20.length ≤ 18 := by rw [hL20, List.length_append]; have := hb_L19; have h2_ : (wd 6 (jk_t 3) 6).length ≤ 6 := (by rw [wd_len]; exact Nat.le_refl _); omega
      have hb_L20 := hb20
      have hS20 : ∀ j, j < 237 → A20 0 j = nI (S j) := fun j hj => by rw [hk20.2 0 (by decide)]; exact hS19 j hj
      have hT20 := hT19.w hk20
      refine jv_iconst (v := nI 0) X dX2_report_94 rfl ?_
      refine jv_istore_n (lv' := [(2, .int (nI 0)), (0, .ref o.2.1), (1, .int (nI i.toNatClampNeg))]) X dX2_report_95 rfl (by decide) rfl ?_
      have lp96_21 : ∀ (d_96 : Nat) (v : Nat) (F2 : Nat → Int32) (A2 : Nat → Nat → Int32) (L2 : List Nat), v ≤ 5 → isW F2 A2 L2 → ktW FG_ AG_ F2 A2 → L2 = repA (gA S) i.toNatClampNeg ++ repV S (tp (gA S) i.toNatClampNeg) (tg (gA S) i.toNatClampNeg) v → 5 - v < d_96 → jv_J x G 4 Q_ (md_M G o F2 A2) 0 0 96 [(0, .ref o.2.1), (1, .int (nI i.toNatClampNeg)), (2, .int (nI v))] [] := by
        intro d_96
        induction d_96 with
        | zero => intro v F2 A2 L2 hv hw2 hk2 hL2 hm_96; exact absurd hm_96 (Nat.not_lt_zero _)
        | succ d_96 ih_96 =>
          intro v F2 A2 L2 hv hw2 hk2 hL2 hm_96
          have hb_L2 : L2.length ≤ 18 + 6 * v := by rw [hL2, List.length_append]; have := repA_len (gA S) i.toNatClampNeg; have := repV_len S (tp (gA S) i.toNatClampNeg) (tg (gA S) i.toNatClampNeg) v; omega
          have hT2 := hTG_.w hk2
          have hS2 : ∀ j, j < 237 → A2 0 j = nI (S j) := fun j hj => by rw [hk2.2 0 (by decide)]; exact hSG_ j hj
          refine jv_iload_n X dX2_report_96 2 rfl ?_
          refine jv_iconst (v := nI 5) X dX2_report_97 rfl ?_
          refine jn_icmp_ge 196 X dX2_report_98 (by decide) (by omega) (by decide) (fun c98 => ?_) (fun c98 => ?_)
          · skip
            refine jv_aload_n X dX2_report_196 0 rfl ?_
            refine jm_getA X dX2_report_197 15 (by decide) q2025 rfl ?_
            refine jv_iload_n X dX2_report_200 1 rfl ?_
            refine jm_ld (v := nI (tg (gA S) i.toNatClampNeg)) X hO dX2_report_201 15 (by decide) (show i.toNatClampNeg < 40 from (by omega)) (hT2.2.2.2.2.2 _ (by omega)) ?_
            refine jv_iconst (v := nI 5) X dX2_report_202 rfl ?_
            refine jv_ishr (w := nI ((tg (gA S) i.toNatClampNeg) / 2 ^ 5)) X dX2_report_203 (ni_shr (by omega) (by omega)) ?_
            refine jv_iconst (v := nI 1) X dX2_report_204 rfl ?_
            refine jv_iand (w := nI (((tg (gA S) i.toNatClampNeg) / 2 ^ 5) &&& 1)) X dX2_report_205 (ni_and _ _) ?_
            refine jv_iconst (v := nI 1) X dX2_report_206 rfl ?_
            refine jn_icmp_ne 217 X dX2_report_207 (by decide) (Nat.lt_of_le_of_lt Nat.and_le_right (by decide)) (by decide) (fun c207 => ?_) (fun c207 => ?_)
            · skip
              refine jv_aload_n X dX2_report_217 0 rfl ?_
              refine jm_getF (v := nI L2.length) X dX2_report_218 11 (by decide) q2021 rfl hw2.1 ?_
              have hfin : L2 = rep S (gA S) i.toNatClampNeg := by rw [rep, if_neg c207, hL2, show v = 5 by omega]; rw [List.append_nil]
              exact jv_iret (v := nI L2.length) X dX2_report_221 rfl hQ (Nat.le_of_ble_eq_true rfl) (Nat.le_of_ble_eq_true rfl) ⟨_, _, rfl, (by rw [m_report, if_pos c15]; exact ⟨by rw [hfin], hz.rep (fun k e => (hk2.1 k (by omega)).trans (hKG_.1 k (by omega) (by omega))) (fun k e => (hk2.2 k (by omega)).trans (hKG_.2 k (by omega) (by omega) (by omega) (by omega))) (hfin ▸ hw2)⟩)⟩
            · skip
              refine jv_aload_n X dX2_report_210 0 rfl ?_
              refine jv_ldcStW X dX2_report_211 (hG.f X).2.1.2.2.2.2.2.2.2.2.1 ?_
              refine jv_callv (jv_runV (As := [.ref (σ.1 5)]) (rest := []) X dX2_report_214 (c_X2_writesWord (N := 5) hO hw2 hG (fun _ _ => (jstr.K (i := 5) (by decide))) (by have := hb_L2; omega)) (lw_V q2428 q2430 qs86 q100 q2431) hd_X2_writesWord md_M_o rfl (Nat.le_of_ble_eq_true rfl) (Nat.le_of_ble_eq_true rfl) (Nat.le_of_ble_eq_true rfl) (Nat.le_of_ble_eq_true rfl) rfl (Nat.le_of_ble_eq_true rfl)) (fun M_ h_ => ?_)
              obtain ⟨F22, A22, rfl, h22⟩ := h_
              obtain ⟨hw22, hk22⟩ := h22
              obtain ⟨L22, hL22⟩ : ∃ L_, L_ = L2 ++ wd 5 (jk_t 5) 5 := ⟨_, rfl⟩
              rw [← hL22] at hw22
              have hb22 : L22.length ≤ 18 + 6 * v + 5 := by rw [hL22, List.length_append]; have := hb_L2; have h2_ : (wd 5 (jk_t 5) 5).length ≤ 5 := (by rw [wd_len]; exact Nat.le_refl _); omega
              have hb_L22 := hb22
              have hS22 : ∀ j, j < 237 → A22 0 j = nI (S j) := fun j hj => by rw [hk22.2 0 (by decide)]; exact hS2 j hj
              have hT22 := hT2.w hk22
              refine jv_aload_n X dX2_report_217 0 rfl ?_
              refine jm_getF (v := nI L22.length) X dX2_report_218 11 (by decide) q2021 rfl hw22.1 ?_
              have hfin : L22 = rep S (gA S) i.toNatClampNeg := by rw [hL22]; rw [rep, if_pos c207, hL2, show v = 5 by omega]
              exact jv_iret (v := nI L22.length) X dX2_report_221 rfl hQ (Nat.le_of_ble_eq_true rfl) (Nat.le_of_ble_eq_true rfl) ⟨_, _, rfl, (by rw [m_report, if_pos c15]; exact ⟨by rw [hfin], hz.rep (fun k e => ((hk2.tr hk22).1 k (by omega)).trans (hKG_.1 k (by omega) (by omega))) (fun k e => ((hk2.tr hk22).2 k (by omega)).trans (hKG_.2 k (by omega) (by omega) (by omega) (by omega))) (hfin ▸ hw22)⟩)⟩
          · skip
            refine jv_aload_n X dX2_report_101 0 rfl ?_
            refine jm_getA X dX2_report_102 15 (by decide) q2025 rfl ?_
            refine jv_iload_n X dX2_report_105 1 rfl ?_
            refine jm_ld (v := nI (tg (gA S) i.toNatClampNeg)) X hO dX2_report_106 15 (by decide) (show i.toNatClampNeg < 40 from (by omega)) (hT2.2.2.2.2.2 _ (by omega)) ?_
            refine jv_iload_n X dX2_report_107 2 rfl ?_
            refine jv_ishr (w := nI ((tg (gA S) i.toNatClampNeg) / 2 ^ v)) X dX2_report_108 (ni_shr (by omega) (by omega)) ?_
            refine jv_iconst (v := nI 1) X dX2_report_109 rfl ?_
            refine jv_iand (w := nI (((tg (gA S) i.toNatClampNeg) / 2 ^ v) &&& 1)) X dX2_report_110 (ni_and _ _) ?_
            refine jv_iconst (v := nI 1) X dX2_report_111 rfl ?_
            refine jn_icmp_ne 190 X dX2_report_112 (by decide) (Nat.lt_of_le_of_lt Nat.and_le_right (by decide)) (by decide) (fun c112 => ?_) (fun c112 => ?_)
            · skip
              refine jv_iinc (v := nI (v + 1)) (lv' := [(2, .int (nI (v + 1))), (0, .ref o.2.1), (1, .int (nI i.toNatClampNeg))]) X dX2_report_190 2 rfl (nI_1 _) (by decide) rfl ?_
              refine jv_goto 96 X dX2_report_193 (by decide) ?_
              refine jv_lv (lv' := [(0, .ref o.2.1), (1, .int (nI i.toNatClampNeg)), (2, .int (nI (v + 1)))]) [1, 2, 0] rfl ?_
              exact ih_96 (v + 1) F2 A2 L2 (by omega) hw2 hk2 (by rw [hL2, repV, if_neg c112, List.append_nil]) (by omega)
            · skip
              refine jv_aload_n X dX2_report_115 0 rfl ?_
              refine jv_aload_n X dX2_report_116 0 rfl ?_
              refine jm_getA X dX2_report_117 14 (by decide) q2024 rfl ?_
              refine jv_iload_n X dX2_report_120 1 rfl ?_
              refine jm_ld (v := nI (tp (gA S) i.toNatClampNeg)) X hO dX2_report_121 14 (by decide) (show i.toNatClampNeg < 40 from (by omega)) (hT2.2.2.2.2.1 _ (by omega)) ?_
              refine jv_iconst (v := nI 2) X dX2_report_122 rfl ?_
              refine jv_iload_n X dX2_report_123 2 rfl ?_
              refine jv_iadd (w := nI (2 + v)) X dX2_report_124 (nI_add _ _) ?_
              refine jv_ask (jv_runV (As := [.int (nI (tp (gA S) i.toNatClampNeg)), .int (nI (2 + v))]) (rest := []) X dX2_report_125 (c_X2_of hO hS2 (tp (gA S) i.toNatClampNeg) (2 + v) (by omega) (by omega)) (lw_V q2115 q2117 qs42 q100 q2118) hd_X2_of md_M_o rfl (Nat.le_of_ble_eq_true rfl) (Nat.le_of_ble_eq_true rfl) (Nat.le_of_ble_eq_true rfl) (Nat.le_of_ble_eq_true rfl) rfl (Nat.le_of_ble_eq_true rfl)) ?_
              refine jv_istore_n (lv' := [(3, .int (nI (v_of S (tp (gA S) i.toNatClampNeg) (2 + v)))), (0, .ref o.2.1), (1, .int (nI i.toNatClampNeg)), (2, .int (nI v))]) X dX2_report_128 rfl (by decide) rfl ?_
              have hvr := hW.vr (p := tp (gA S) i.toNatClampNeg) (by omega) (v := v) (by omega)
              refine jv_aload_n X dX2_report_129 1 rfl ?_
              refine jv_bipush (v := nI 32) X dX2_report_130 rfl ?_
              refine jv_callv (jv_runV (As := [.int (nI 32)]) (rest := []) X dX2_report_132 (c_X2_writes hO hw2 32 (by have := hb_L2; omega)) (lw_V q2423 q2425 qs85 q100 q2426) hd_X2_writes md_M_o rfl (Nat.le_of_ble_eq_true rfl) (Nat.le_of_ble_eq_true rfl) (Nat.le_of_ble_eq_true rfl) (Nat.le_of_ble_eq_true rfl) rfl (Nat.le_of_ble_eq_true rfl)) (fun M_ h_ => ?_)
              obtain ⟨F23, A23, rfl, h23⟩ := h_
              obtain ⟨hw23, hk23⟩ := h23
              obtain ⟨L23, hL23⟩ : ∃ L_, L_ = L2 ++ [32] := ⟨_, rfl⟩
              rw [← hL23] at hw23
              have hb23 : L23.length ≤ 18 + 6 * v + 1 := by rw [hL23, List.length_append]; have := hb_L2; have h2_ : ([32]).length ≤ 1 := Nat.le_refl _; omega
              have hb_L23 := hb23
              have hS23 : ∀ j, j < 237 → A23 0 j = nI (S j) := fun j hj => by rw [hk23.2 0 (by decide)]; exact hS2 j hj
              have hT23 := hT2.w hk23
              refine jv_aload_n X dX2_report_135 1 rfl ?_
              refine jv_bipush (v := nI 48) X dX2_report_136 rfl ?_
              refine jv_iload_n X dX2_report_138 0 rfl ?_
              refine jv_bipush (v := nI 100) X dX2_report_139 rfl ?_
              refine jv_idiv (w := nI ((v_of S (tp (gA S) i.toNatClampNeg) (2 + v)) / 100)) X dX2_report_141 (ni_nz (by decide) (by decide)) (pk_div (by omega) (by decide) (by decide)) ?_
              refine jv_iadd (w := nI (48 + ((v_of S (tp (gA S) i.toNatClampNeg) (2 + v)) / 100))) X dX2_report_142 (nI_add _ _) ?_
              refine jv_callv (jv_runV (As := [.int (nI (48 + ((v_of S (tp (gA S) i.toNatClampNeg) (2 + v)) / 100)))]) (rest := []) X dX2_report_143 (c_X2_writes hO hw23 (48 + ((v_of S (tp (gA S) i.toNatClampNeg) (2 + v)) / 100)) (by have := hb_L23; omega)) (lw_V q2423 q2425 qs85 q100 q2426) hd_X2_writes md_M_o rfl (Nat.le_of_ble_eq_true rfl) (Nat.le_of_ble_eq_true rfl) (Nat.le_of_ble_eq_true rfl) (Nat.le_of_ble_eq_true rfl) rfl (Nat.le_of_ble_eq_true rfl)) (fun M_ h_ => ?_)
              obtain ⟨F24, A24, rfl, h24⟩ := h_
              obtain ⟨hw24, hk24⟩ := h24
              obtain ⟨L24, hL24⟩ : ∃ L_, L_ = L23 ++ [(48 + ((v_of S (tp (gA S) i.toNatClampNeg) (2 + v)) / 100))] := ⟨_, rfl⟩
              rw [← hL24] at hw24
              have hb24 : L24.length ≤ 18 + 6 * v + 1 + 1 := by rw [hL24, List.length_append]; have := hb_L23; have h2_ : ([(48 + ((v_of S (tp (gA S) i.toNatClampNeg) (2 + v)) / 100))]).length ≤ 1 := Nat.le_refl _; omega
              have hb_L24 := hb24
              have hS24 : ∀ j, j < 237 → A24 0 j = nI (S j) := fun j hj => by rw [hk24.2 0 (by decide)]; exact hS23 j hj
              have hT24 := hT23.w hk24
              refine jv_aload_n X dX2_report_146 1 rfl ?_
              refine jv_bipush (v := nI 46) X dX2_report_147 rfl ?_
              refine jv_callv (jv_runV (As := [.int (nI 46)]) (rest := []) X dX2_report_149 (c_X2_writes hO hw24 46 (by have := hb_L24; omega)) (lw_V q2423 q2425 qs85 q100 q2426) hd_X2_writes md_M_o rfl (Nat.le_of_ble_eq_true rfl) (Nat.le_of_ble_eq_true rfl) (Nat.le_of_ble_eq_true rfl) (Nat.le_of_ble_eq_true rfl) rfl (Nat.le_of_ble_eq_true rfl)) (fun M_ h_ => ?_)
              obtain ⟨F25, A25, rfl, h25⟩ := h_
              obtain ⟨hw25, hk25⟩ := h25
              obtain ⟨L25, hL25⟩ : ∃ L_, L_ = L24 ++ [46] := ⟨_, rfl⟩
              rw [← hL25] at hw25
              have hb25 : L25.length ≤ 18 + 6 * v + 1 + 1 + 1 := by rw [hL25, List.length_append]; have := hb_L24; have h2_ : ([46]).length ≤ 1 := Nat.le_refl _; omega
              have hb_L25 := hb25
              have hS25 : ∀ j, j < 237 → A25 0 j = nI (S j) := fun j hj => by rw [hk25.2 0 (by decide)]; exact hS24 j hj
              have hT25 := hT24.w hk25
              refine jv_aload_n X dX2_report_152 1 rfl ?_
              refine jv_bipush (v := nI 48) X dX2_report_153 rfl ?_
              refine jv_iload_n X dX2_report_155 0 rfl ?_
              refine jv_bipush (v := nI 10) X dX2_report_156 rfl ?_
              refine jv_idiv (w := nI ((v_of S (tp (gA S) i.toNatClampNeg) (2 + v)) / 10)) X dX2_report_158 (ni_nz (by decide) (by decide)) (pk_div (by omega) (by decide) (by decide)) ?_
              refine jv_bipush (v := nI 10) X dX2_report_159 rfl ?_
              refine jv_irem (w := nI (((v_of S (tp (gA S) i.toNatClampNeg) (2 + v)) / 10) % 10)) X dX2_report_161 (ni_nz (by decide) (by decide)) (pk_rem (by omega) (by decide) (by decide)) ?_
              refine jv_iadd (w := nI (48 + (((v_of S (tp (gA S) i.toNatClampNeg) (2 + v)) / 10) % 10))) X dX2_report_162 (nI_add _ _) ?_
              refine jv_callv (jv_runV (As := [.int (nI (48 + (((v_of S (tp (gA S) i.toNatClampNeg) (2 + v)) / 10) % 10)))]) (rest := []) X dX2_report_163 (c_X2_writes hO hw25 (48 + (((v_of S (tp (gA S) i.toNatClampNeg) (2 + v)) / 10) % 10)) (by have := hb_L25; omega)) (lw_V q2423 q2425 qs85 q100 q2426) hd_X2_writes md_M_o rfl (Nat.le_of_ble_eq_true rfl) (Nat.le_of_ble_eq_true rfl) (Nat.le_of_ble_eq_true rfl) (Nat.le_of_ble_eq_true rfl) rfl (Nat.le_of_ble_eq_true rfl)) (fun M_ h_ => ?_)
              obtain ⟨F26, A26, rfl, h26⟩ := h_
              obtain ⟨hw26, hk26⟩ := h26
              obtain ⟨L26, hL26⟩ : ∃ L_, L_ = L25 ++ [(48 + (((v_of S (tp (gA S) i.toNatClampNeg) (2 + v)) / 10) % 10))] := ⟨_, rfl⟩
              rw [← hL26] at hw26
              have hb26 : L26.length ≤ 18 + 6 * v + 1 + 1 + 1 + 1 := by rw [hL26, List.length_append]; have := hb_L25; have h2_ : ([(48 + (((v_of S (tp (gA S) i.toNatClampNeg) (2 + v)) / 10) % 10))]).length ≤ 1 := Nat.le_refl _; omega
              have hb_L26 := hb26
              have hS26 : ∀ j, j < 237 → A26 0 j = nI (S j) := fun j hj => by rw [hk26.2 0 (by decide)]; exact hS25 j hj
              have hT26 := hT25.w hk26
              refine jv_iload_n X dX2_report_166 0 rfl ?_
              refine jv_bipush (v := nI 10) X dX2_report_167 rfl ?_
              refine jv_irem (w := nI ((v_of S (tp (gA S) i.toNatClampNeg) (2 + v)) % 10)) X dX2_report_169 (ni_nz (by decide) (by decide)) (pk_rem (by omega) (by decide) (by decide)) ?_
              refine jn_if_le 190 X dX2_report_170 (by decide) (by omega) (fun c170 => ?_) (fun c170 => ?_)
              · skip
                refine jv_iinc (v := nI (v + 1)) (lv' := [(2, .int (nI (v + 1))), (3, .int (nI (v_of S (tp (gA S) i.toNatClampNeg) (2 + v)))), (0, .ref o.2.1), (1, .int (nI i.toNatClampNeg))]) X dX2_report_190 3 rfl (nI_1 _) (by decide) rfl ?_
                refine jv_goto 96 X dX2_report_193 (by decide) ?_
                refine jv_lv (lv' := [(0, .ref o.2.1), (1, .int (nI i.toNatClampNeg)), (2, .int (nI (v + 1)))]) [2, 3, 0] rfl ?_
                exact ih_96 (v + 1) F26 A26 L26 (by omega) hw26 ((((hk2.tr hk23).tr hk24).tr hk25).tr hk26) (by rw [hL26, hL25, hL24, hL23, hL2, repV, if_pos c112, ver, if_pos c170]; simp only [List.append_assoc, List.append_nil]) (by omega)
              · skip
                refine jv_aload_n X dX2_report_173 1 rfl ?_
                refine jv_bipush (v := nI 45) X dX2_report_174 rfl ?_
                refine jv_callv (jv_runV (As := [.int (nI 45)]) (rest := []) X dX2_report_176 (c_X2_writes hO hw26 45 (by have := hb_L26; omega)) (lw_V q2423 q2425 qs85 q100 q2426) hd_X2_writes md_M_o rfl (Nat.le_of_ble_eq_true rfl) (Nat.le_of_ble_eq_true rfl) (Nat.le_of_ble_eq_true rfl) (Nat.le_of_ble_eq_true rfl) rfl (Nat.le_of_ble_eq_true rfl)) (fun M_ h_ => ?_)
                obtain ⟨F27, A27, rfl, h27⟩ := h_
                obtain ⟨hw27, hk27⟩ := h27
                obtain ⟨L27, hL27⟩ : ∃ L_, L_ = L26 ++ [45] := ⟨_, rfl⟩
                rw [← hL27] at hw27
                have hb27 : L27.length ≤ 18 + 6 * v + 1 + 1 + 1 + 1 + 1 := by rw [hL27, List.length_append]; have := hb_L26; have h2_ : ([45]).length ≤ 1 := Nat.le_refl _; omega
                have hb_L27 := hb27
                have hS27 : ∀ j, j < 237 → A27 0 j = nI (S j) := fun j hj => by rw [hk27.2 0 (by decide)]; exact hS26 j hj
                have hT27 := hT26.w hk27
                refine jv_aload_n X dX2_report_179 1 rfl ?_
                refine jv_bipush (v := nI 48) X dX2_report_180 rfl ?_
                refine jv_iload_n X dX2_report_182 0 rfl ?_
                refine jv_bipush (v := nI 10) X dX2_report_183 rfl ?_
                refine jv_irem (w := nI ((v_of S (tp (gA S) i.toNatClampNeg) (2 + v)) % 10)) X dX2_report_185 (ni_nz (by decide) (by decide)) (pk_rem (by omega) (by decide) (by decide)) ?_
                refine jv_iadd (w := nI (48 + ((v_of S (tp (gA S) i.toNatClampNeg) (2 + v)) % 10))) X dX2_report_186 (nI_add _ _) ?_
                refine jv_callv (jv_runV (As := [.int (nI (48 + ((v_of S (tp (gA S) i.toNatClampNeg) (2 + v)) % 10)))]) (rest := []) X dX2_report_187 (c_X2_writes hO hw27 (48 + ((v_of S (tp (gA S) i.toNatClampNeg) (2 + v)) % 10)) (by have := hb_L27; omega)) (lw_V q2423 q2425 qs85 q100 q2426) hd_X2_writes md_M_o rfl (Nat.le_of_ble_eq_true rfl) (Nat.le_of_ble_eq_true rfl) (Nat.le_of_ble_eq_true rfl) (Nat.le_of_ble_eq_true rfl) rfl (Nat.le_of_ble_eq_true rfl)) (fun M_ h_ => ?_)
                obtain ⟨F28, A28, rfl, h28⟩ := h_
                obtain ⟨hw28, hk28⟩ := h28
                obtain ⟨L28, hL28⟩ : ∃ L_, L_ = L27 ++ [(48 + ((v_of S (tp (gA S) i.toNatClampNeg) (2 + v)) % 10))] := ⟨_, rfl⟩
                rw [← hL28] at hw28
                have hb28 : L28.length ≤ 18 + 6 * v + 1 + 1 + 1 + 1 + 1 + 1 := by rw [hL28, List.length_append]; have := hb_L27; have h2_ : ([(48 + ((v_of S (tp (gA S) i.toNatClampNeg) (2 + v)) % 10))]).length ≤ 1 := Nat.le_refl _; omega
                have hb_L28 := hb28
                have hS28 : ∀ j, j < 237 → A28 0 j = nI (S j) := fun j hj => by rw [hk28.2 0 (by decide)]; exact hS27 j hj
                have hT28 := hT27.w hk28
                refine jv_iinc (v := nI (v + 1)) (lv' := [(2, .int (nI (v + 1))), (3, .int (nI (v_of S (tp (gA S) i.toNatClampNeg) (2 + v)))), (0, .ref o.2.1), (1, .int (nI i.toNatClampNeg))]) X dX2_report_190 3 rfl (nI_1 _) (by decide) rfl ?_
                refine jv_goto 96 X dX2_report_193 (by decide) ?_
                refine jv_lv (lv' := [(0, .ref o.2.1), (1, .int (nI i.toNatClampNeg)), (2, .int (nI (v + 1)))]) [2, 3, 0] rfl ?_
                exact ih_96 (v + 1) F28 A28 L28 (by omega) hw28 ((((((hk2.tr hk23).tr hk24).tr hk25).tr hk26).tr hk27).tr hk28) (by rw [hL28, hL27, hL26, hL25, hL24, hL23, hL2, repV, if_pos c112, ver, if_neg (Nat.pos_iff_ne_zero.mp c170)]; simp only [List.append_assoc, List.append_nil]) (by omega)
      refine jv_lv (lv' := [(0, .ref o.2.1), (1, .int (nI i.toNatClampNeg)), (2, .int (nI 0))]) [1, 2, 0] rfl ?_
      exact lp96_21 (5 + 1) 0 F20 A20 L20 (Nat.zero_le _) hw20 (((((((hkw0.tr hk2).tr hk3).tr hk16).tr hk17).tr hk18).tr hk19).tr hk20) (by rw [repV, List.append_nil, repA, if_neg (Nat.not_lt.mpr c45)]; (try simp only [List.append_nil]); rw [hL20, hL19, hL18, hL17, hL16, hL3, hL2, hL0]) (by omega)
  · skip
    refine jv_iconst (v := (-1)) X dX2_report_18 rfl ?_
    exact jv_iret (v := (-1)) X dX2_report_19 rfl hQ (Nat.le_of_ble_eq_true rfl) (Nat.le_of_ble_eq_true rfl) ⟨_, _, rfl, (by rw [m_report, if_neg (Bool.eq_false_iff.mp c15)]; exact ⟨rfl, hz.kt hK1⟩)⟩
theorem hd_X2_character : jv_dd yX2_character 1 := by unfold jv_dd; decide +kernel
set_option maxHeartbeats 4000000 in
theorem c_X2_character {l : Launch} {G : jv_G} {o : md_O} {F : Nat → Int32} {A : Nat → Nat → Int32} {S : Nat → Nat} (hO : md_K G o) (hS : ∀ j, j < 237 → A 0 j = nI (S j)) (i : Int32) {z : t_Z} (hz : isZ F A z) (hw : zw z ≤ 120) : jv_Ct G l yX2_character cX2_character 2 (some .int) 1 0 0 22 [.ref o.2.1, .int i] (md_M G o F A) (jv_qi G (jv_pi (m_character z i) (md_M G o F A))) := by
  refine jv_Ct.of (lv := [(0, .ref o.2.1), (1, .int i)]) (by decide) (Nat.le_of_ble_eq_true rfl) rfl ?_
  intro x Q_ hl_ hQ X
  subst hl_
  refine jv_iload_n X dX2_character_0 1 rfl ?_
  refine jv_iconst (v := nI 0) X dX2_character_1 rfl ?_
  refine jv_aload_n X dX2_character_2 0 rfl ?_
  refine jm_getF (v := nI (zw z)) X dX2_character_3 11 (by decide) q2021 rfl hz.2.2.2.2.2.2.2.2.2.1 ?_
  refine jv_iconst (v := nI 1) X dX2_character_6 rfl ?_
  refine jv_isub (w := (nI (zw z)) - (nI 1)) X dX2_character_7 rfl ?_
  refine jv_ask (jv_runS (As := [.int i, .int (nI 0), .int ((nI (zw z)) - (nI 1))]) (rest := []) X dX2_character_8 (c_X2_in i (nI 0) ((nI (zw z)) - (nI 1))) (lw_S q2112 q2113 q100 q2114) hd_X2_in (Nat.le_of_ble_eq_true rfl) (Nat.le_of_ble_eq_true rfl) (Nat.le_of_ble_eq_true rfl) (Nat.le_of_ble_eq_true rfl) rfl (Nat.le_of_ble_eq_true rfl)) ?_
  refine jb_if_eq 23 X dX2_character_11 (by decide) (fun c11 => ?_) (fun c11 => ?_)
  · skip
    refine jv_iconst (v := (-1)) X dX2_character_23 rfl ?_
    exact jv_iret (v := (-1)) X dX2_character_24 rfl hQ (Nat.le_of_ble_eq_true rfl) (Nat.le_of_ble_eq_true rfl) ⟨(by rw [m_character, if_neg (Bool.eq_false_iff.mp c11)]), rfl⟩
  · skip
    have hq_i : nI (i.toNatClampNeg) = i := (v_in_up (by omega) c11).2
    refine jv_to (lv' := [(0, .ref o.2.1), (1, .int (nI i.toNatClampNeg))]) (st' := []) (by rw [hq_i]) rfl ?_
    have hi0 := (v_in_up (by omega) c11).1
    refine jv_aload_n X dX2_character_14 0 rfl ?_
    refine jm_getA X dX2_character_15 10 (by decide) q2020 rfl ?_
    refine jv_iload_n X dX2_character_18 1 rfl ?_
    refine jm_ld (v := nI (zr z i.toNatClampNeg)) X hO dX2_character_19 10 (by decide) (show i.toNatClampNeg < 120 from (by omega)) (hz.2.2.2.2.2.2.2.2.2.2 _ hi0) ?_
    refine jv_goto 24 X dX2_character_20 (by decide) ?_
    exact jv_iret (v := nI (zr z i.toNatClampNeg)) X dX2_character_24 rfl hQ (Nat.le_of_ble_eq_true rfl) (Nat.le_of_ble_eq_true rfl) ⟨(by rw [m_character, if_pos c11]), rfl⟩
