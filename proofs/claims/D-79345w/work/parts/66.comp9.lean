/-! the component, ninth: narrows -/
set_option maxRecDepth 100000
theorem hd_X6_narrows : jv_dd yX6_narrows 2 := by unfold jv_dd; decide +kernel
set_option maxHeartbeats 4000000 in
theorem c_X6_narrows {l : Launch} {G : jv_G} {M : jv_M} {σ : jk_A} (hG : jk_G G σ) {B : jv_M} {τ : Nat → Nat} {b t : Nat} {S : Nat → Nat} {T : t_T2} (hB : jbd G B τ b S) (hS : wfS S) (hL : wfL S) (hPP : wfP S) (hT : jtr G σ B M S b t T) (hk : okT T) (hwT : wfT S T) {a r : Nat} (hr : r < S 1)  (h0 : v_ofRule S r 0 = 0) (haB : B a = some (.inr (5, [.int (nI (v_ofRule S r 1)), .int (-5), .int (-5), .int (nI (v_ofRule S r 4))]))) : jv_Ct G l yX6_narrows cX6_narrows 3 (none) 9 (2 * (tn (appT S r T) - tn T)) (64 * (tn (appT S r T) - tn T)) 297 [.ref a, .ref t, .int (nI r)] M (jv_qv G (fun M' => jtr G σ B M' S b t (appT S r T))) := by
  refine jv_Ct.of (lv := [(0, .ref a), (1, .ref t), (2, .int (nI r))]) (by decide) (Nat.le_of_ble_eq_true rfl) rfl ?_
  intro x Q_ hl_ hQ X
  subst hl_
  have hT_ := hT
  have hB0 := hB
  obtain ⟨ma, le, sl, N, e, mc, gm, gl, f, V, ⟨ht, hft, hnt⟩, ⟨hma, hfma, hnma, hgm⟩, ⟨hle, hfle, hnle, hgl⟩, hml, ⟨hdl, hnsl, hne⟩, hV, hag⟩ := hT
  obtain ⟨hsl, hfsl, hnN, hN60, hdl4⟩ := id hdl
  have hn36 := hk.1
  have hW := hS.1
  have hp0 := hW.p
  have hr0 := hW.r
  have hr1_ := hW.r1 (show r < 30 by omega)
  have hr2_ := hW.r2 (show r < 30 by omega)
  have hr3_ := hW.r3 (show r < 30 by omega)
  have hS1_ := hS.2.1 r hr
  have hap_ := congrArg tn (appT_0 (T := T) h0)
  refine jv_aload_n X dX6_narrows_0 1 rfl ?_
  refine jv_iload_n X dX6_narrows_1 2 rfl ?_
  refine jv_aload_n X dX6_narrows_2 0 rfl ?_
  refine jv_getS X dX6_narrows_3 (hag.c haB) (T := TX6) (N := 4) (C := RX6) rfl in_X6 0 (by decide) q702 q703 rfl ?_
  refine jv_aload_n X dX6_narrows_6 1 rfl ?_
  refine jv_getN X dX6_narrows_7 ht (T := TX10) (N := 5) (C := RX10) rfl in_X10 1 (by decide) q895 rfl rfl ?_
  refine jv_iload_n X dX6_narrows_10 2 rfl ?_
  refine jv_iald (v := nI (msk S r)) X dX6_narrows_11 hma (jn_in (by omega) (by omega)) (by rw [nI_clamp (by omega)]; exact (hgm _ (by omega))) ?_
  refine jv_iconst (v := (-1)) X dX6_narrows_12 rfl ?_
  refine jv_ixor (w := (nI (msk S r)) ^^^ (-1)) X dX6_narrows_13 rfl ?_
  refine jv_callv (jv_runV (As := [.int (nI r), .int (nI (v_ofRule S r 1)), .int ((nI (msk S r)) ^^^ (-1))]) (rest := []) X dX6_narrows_14 (c_X10_leavesOut hG hB0 hS hL hPP hT_ hk hwT r (v_ofRule S r 1) ((nI (msk S r)) ^^^ (-1)) (by omega) (by omega) (fun _ => Or.inl ⟨h0, rfl⟩)) (lw_V q1016 q955 q956 q115 q957) hd_X10_leavesOut ht rfl (Nat.le_of_ble_eq_true rfl) (Nat.le_of_ble_eq_true rfl) (by omega) (by omega) rfl (Nat.le_of_ble_eq_true rfl)) (fun M1 hT1 => ?_)
  have hle1 : tn T ≤ tn (lvT r (v_ofRule S r 1) ((nI (msk S r)) ^^^ (-1)) T) := lvT_le
  exact jv_vret X dX6_narrows_17 hQ (by omega) (by omega) (by rw [← appT_0 h0]; exact hT1)
theorem hd_X7_narrows : jv_dd yX7_narrows 2 := by unfold jv_dd; decide +kernel
set_option maxHeartbeats 4000000 in
theorem c_X7_narrows_X8 {l : Launch} {G : jv_G} {M : jv_M} {σ : jk_A} (hG : jk_G G σ) {B : jv_M} {τ : Nat → Nat} {b t : Nat} {S : Nat → Nat} {T : t_T2} (hB : jbd G B τ b S) (hS : wfS S) (hL : wfL S) (hPP : wfP S) (hT : jtr G σ B M S b t T) (hk : okT T) (hwT : wfT S T) {a r : Nat} (hr : r < S 1)  (h0 : v_ofRule S r 0 = 1) (haB : B a = some (.inr (6, [.int (nI (v_ofRule S r 1)), .int (nI (v_ofRule S r 2)), .int (nI (v_ofRule S r 3)), .int (nI (v_ofRule S r 4))]))) : jv_Ct G l yX7_narrows cX7_narrows 3 (none) 9 (2 * (tn (appT S r T) - tn T)) (64 * (tn (appT S r T) - tn T)) 297 [.ref a, .ref t, .int (nI r)] M (jv_qv G (fun M' => jtr G σ B M' S b t (appT S r T))) := by
  refine jv_Ct.of (lv := [(0, .ref a), (1, .ref t), (2, .int (nI r))]) (by decide) (Nat.le_of_ble_eq_true rfl) rfl ?_
  intro x Q_ hl_ hQ X
  subst hl_
  have hT_ := hT
  have hB0 := hB
  obtain ⟨ma, le, sl, N, e, mc, gm, gl, f, V, ⟨ht, hft, hnt⟩, ⟨hma, hfma, hnma, hgm⟩, ⟨hle, hfle, hnle, hgl⟩, hml, ⟨hdl, hnsl, hne⟩, hV, hag⟩ := hT
  obtain ⟨hsl, hfsl, hnN, hN60, hdl4⟩ := id hdl
  have hn36 := hk.1
  have hW := hS.1
  have hp0 := hW.p
  have hr0 := hW.r
  have hr1_ := hW.r1 (show r < 30 by omega)
  have hr2_ := hW.r2 (show r < 30 by omega)
  have hr3_ := hW.r3 (show r < 30 by omega)
  have hS1_ := hS.2.1 r hr
  have hap_ := congrArg tn (appT_tie (T := T) (barX_1 h0) (by rw [h0]; rfl) (hPP r hr (by rw [h0]; rfl)) hr3_ hk)
  have hle2_ := Nat.le_trans lvT_le (Nat.le_of_eq hap_)
  refine jv_aload_n X dX7_narrows_0 1 rfl ?_
  refine jv_iload_n X dX7_narrows_1 2 rfl ?_
  refine jv_aload_n X dX7_narrows_2 0 rfl ?_
  refine jv_getS X dX7_narrows_3 (hag.c haB) (T := TX8) (N := 4) (C := RX8) rfl in_X8 2 (by decide) q710 q711 rfl ?_
  refine jv_aload_n X dX7_narrows_6 0 rfl ?_
  refine jv_aload_n X dX7_narrows_7 1 rfl ?_
  refine jv_getN X dX7_narrows_8 ht (T := TX10) (N := 5) (C := RX10) rfl in_X10 1 (by decide) q896 rfl rfl ?_
  refine jv_iload_n X dX7_narrows_11 2 rfl ?_
  refine jv_iald (v := nI (msk S r)) X dX7_narrows_12 hma (jn_in (by omega) (by omega)) (by rw [nI_clamp (by omega)]; exact (hgm _ (by omega))) ?_
  refine jv_aload_n X dX7_narrows_13 1 rfl ?_
  refine jv_getN X dX7_narrows_14 ht (T := TX10) (N := 5) (C := RX10) rfl in_X10 2 (by decide) q898 rfl rfl ?_
  refine jv_aload_n X dX7_narrows_17 0 rfl ?_
  refine jv_getS X dX7_narrows_18 (hag.c haB) (T := TX8) (N := 4) (C := RX8) rfl in_X8 2 (by decide) q710 q711 rfl ?_
  refine jv_ask (jv_runU (As := [.int (nI (msk S r)), .ref le, .int (nI (v_ofRule S r 3))]) (rest := [.int (nI (v_ofRule S r 3)), .int (nI r), .ref t]) X dX7_narrows_21 (c_X7_impossible_X8 hle hgl (hag.c haB) (nI (msk S r)) (v_ofRule S r 3) hr1_ (by omega) hr3_ (by omega) hk.2.1) (jv_cuI X (lw_U (x := yX7_impossible) q939 q941 q943 q940 q112 q944) rfl ⟨by decide, by decide⟩ hd_X7_impossible (Nat.le_of_ble_eq_true rfl) (Nat.le_of_ble_eq_true rfl)) (hag.c haB) (show jv_cl[6]? = some (RX8, TX8, 4) from rfl) (by omega) (by omega) rfl (Nat.le_of_ble_eq_true rfl)) ?_
  refine jv_callv (jv_runV (As := [.int (nI r), .int (nI (v_ofRule S r 3)), .int (EI S r (nI (msk S r)) (tl T) (v_ofRule S r 3))]) (rest := []) X dX7_narrows_24 (c_X10_leavesOut hG hB0 hS hL hPP hT_ hk hwT r (v_ofRule S r 3) (EI S r (nI (msk S r)) (tl T) (v_ofRule S r 3)) (by omega) (by omega) (fun _ => Or.inr (Or.inr ⟨by rw [h0]; rfl, Or.inr rfl⟩))) (lw_V q954 q955 q956 q115 q957) hd_X10_leavesOut ht rfl (Nat.le_of_ble_eq_true rfl) (Nat.le_of_ble_eq_true rfl) (by omega) (by omega) rfl (Nat.le_of_ble_eq_true rfl)) (fun M1 hT1 => ?_)
  have hle1 : tn T ≤ tn (lvT r (v_ofRule S r 3) (EI S r (nI (msk S r)) (tl T) (v_ofRule S r 3)) T) := lvT_le
  have hk1_ : okT (lvT r (v_ofRule S r 3) (EI S r (nI (msk S r)) (tl T) (v_ofRule S r 3)) T) := hk.lv hr3_ _
  have hwT1_ : wfT S (lvT r (v_ofRule S r 3) (EI S r (nI (msk S r)) (tl T) (v_ofRule S r 3)) T) := hwT.lv hk hp0 (Or.inl hr) hS1_.2 _
  obtain ⟨ma1, le1, sl1, N1, e1, mc1, gm1, gl1, f1, V1, ⟨ht1, hft1, hnt1⟩, ⟨hma1, hfma1, hnma1, hgm1⟩, ⟨hle1, hfle1, hnle1, hgl1⟩, hml1, ⟨hdl1, hnsl1, hne1⟩, hV1, hag1⟩ := id hT1
  obtain ⟨hsl1, hfsl1, hnN1, hN601, hdl41⟩ := id hdl1
  refine jv_aload_n X dX7_narrows_27 1 rfl ?_
  refine jv_iload_n X dX7_narrows_28 2 rfl ?_
  refine jv_aload_n X dX7_narrows_29 0 rfl ?_
  refine jv_getS X dX7_narrows_30 (hag1.c haB) (T := TX8) (N := 4) (C := RX8) rfl in_X8 0 (by decide) q704 q705 rfl ?_
  refine jv_aload_n X dX7_narrows_33 0 rfl ?_
  refine jv_aload_n X dX7_narrows_34 1 rfl ?_
  refine jv_getN X dX7_narrows_35 ht1 (T := TX10) (N := 5) (C := RX10) rfl in_X10 1 (by decide) q896 rfl rfl ?_
  refine jv_iload_n X dX7_narrows_38 2 rfl ?_
  refine jv_iald (v := nI (msk S r)) X dX7_narrows_39 hma1 (jn_in (by omega) (by omega)) (by rw [nI_clamp (by omega)]; exact (hgm1 _ (by omega))) ?_
  refine jv_aload_n X dX7_narrows_40 1 rfl ?_
  refine jv_getN X dX7_narrows_41 ht1 (T := TX10) (N := 5) (C := RX10) rfl in_X10 2 (by decide) q898 rfl rfl ?_
  refine jv_aload_n X dX7_narrows_44 0 rfl ?_
  refine jv_getS X dX7_narrows_45 (hag1.c haB) (T := TX8) (N := 4) (C := RX8) rfl in_X8 0 (by decide) q704 q705 rfl ?_
  refine jv_ask (jv_runU (As := [.int (nI (msk S r)), .ref le1, .int (nI (v_ofRule S r 1))]) (rest := [.int (nI (v_ofRule S r 1)), .int (nI r), .ref t]) X dX7_narrows_48 (c_X7_impossible_X8 hle1 hgl1 (hag1.c haB) (nI (msk S r)) (v_ofRule S r 1) hr1_ (by omega) hr3_ (by omega) hk1_.2.1) (jv_cuI X (lw_U (x := yX7_impossible) q939 q941 q943 q940 q112 q944) rfl ⟨by decide, by decide⟩ hd_X7_impossible (Nat.le_of_ble_eq_true rfl) (Nat.le_of_ble_eq_true rfl)) (hag1.c haB) (show jv_cl[6]? = some (RX8, TX8, 4) from rfl) (by omega) (by omega) rfl (Nat.le_of_ble_eq_true rfl)) ?_
  refine jv_callv (jv_runV (As := [.int (nI r), .int (nI (v_ofRule S r 1)), .int (EI S r (nI (msk S r)) (tl (lvT r (v_ofRule S r 3) (EI S r (nI (msk S r)) (tl T) (v_ofRule S r 3)) T)) (v_ofRule S r 1))]) (rest := []) X dX7_narrows_51 (c_X10_leavesOut hG hB0 hS hL hPP hT1 hk1_ hwT1_ r (v_ofRule S r 1) (EI S r (nI (msk S r)) (tl (lvT r (v_ofRule S r 3) (EI S r (nI (msk S r)) (tl T) (v_ofRule S r 3)) T)) (v_ofRule S r 1)) (by omega) (by omega) (fun _ => Or.inr (Or.inr ⟨by rw [h0]; rfl, Or.inl rfl⟩))) (lw_V q954 q955 q956 q115 q957) hd_X10_leavesOut ht1 rfl (Nat.le_of_ble_eq_true rfl) (Nat.le_of_ble_eq_true rfl) (by omega) (by omega) rfl (Nat.le_of_ble_eq_true rfl)) (fun M2 hT2 => ?_)
  have hle2 : tn (lvT r (v_ofRule S r 3) (EI S r (nI (msk S r)) (tl T) (v_ofRule S r 3)) T) ≤ tn (lvT r (v_ofRule S r 1) (EI S r (nI (msk S r)) (tl (lvT r (v_ofRule S r 3) (EI S r (nI (msk S r)) (tl T) (v_ofRule S r 3)) T)) (v_ofRule S r 1)) (lvT r (v_ofRule S r 3) (EI S r (nI (msk S r)) (tl T) (v_ofRule S r 3)) T)) := lvT_le
  exact jv_vret X dX7_narrows_54 hQ (by omega) (by omega) (by rw [← appT_tie (barX_1 h0) (by rw [h0]; rfl) (hPP r hr (by rw [h0]; rfl)) hr3_ hk]; exact hT2)
set_option maxHeartbeats 4000000 in
theorem c_X7_narrows_X9 {l : Launch} {G : jv_G} {M : jv_M} {σ : jk_A} (hG : jk_G G σ) {B : jv_M} {τ : Nat → Nat} {b t : Nat} {S : Nat → Nat} {T : t_T2} (hB : jbd G B τ b S) (hS : wfS S) (hL : wfL S) (hPP : wfP S) (hT : jtr G σ B M S b t T) (hk : okT T) (hwT : wfT S T) {a r : Nat} (hr : r < S 1)  (h0 : v_ofRule S r 0 = 2) (haB : B a = some (.inr (7, [.int (nI (v_ofRule S r 1)), .int (nI (v_ofRule S r 2)), .int (nI (v_ofRule S r 3)), .int (nI (v_ofRule S r 4))]))) : jv_Ct G l yX7_narrows cX7_narrows 3 (none) 9 (2 * (tn (appT S r T) - tn T)) (64 * (tn (appT S r T) - tn T)) 297 [.ref a, .ref t, .int (nI r)] M (jv_qv G (fun M' => jtr G σ B M' S b t (appT S r T))) := by
  refine jv_Ct.of (lv := [(0, .ref a), (1, .ref t), (2, .int (nI r))]) (by decide) (Nat.le_of_ble_eq_true rfl) rfl ?_
  intro x Q_ hl_ hQ X
  subst hl_
  have hT_ := hT
  have hB0 := hB
  obtain ⟨ma, le, sl, N, e, mc, gm, gl, f, V, ⟨ht, hft, hnt⟩, ⟨hma, hfma, hnma, hgm⟩, ⟨hle, hfle, hnle, hgl⟩, hml, ⟨hdl, hnsl, hne⟩, hV, hag⟩ := hT
  obtain ⟨hsl, hfsl, hnN, hN60, hdl4⟩ := id hdl
  have hn36 := hk.1
  have hW := hS.1
  have hp0 := hW.p
  have hr0 := hW.r
  have hr1_ := hW.r1 (show r < 30 by omega)
  have hr2_ := hW.r2 (show r < 30 by omega)
  have hr3_ := hW.r3 (show r < 30 by omega)
  have hS1_ := hS.2.1 r hr
  have hap_ := congrArg tn (appT_tie (T := T) (barX_2 h0) (by rw [h0]; rfl) (hPP r hr (by rw [h0]; rfl)) hr3_ hk)
  have hle2_ := Nat.le_trans lvT_le (Nat.le_of_eq hap_)
  refine jv_aload_n X dX7_narrows_0 1 rfl ?_
  refine jv_iload_n X dX7_narrows_1 2 rfl ?_
  refine jv_aload_n X dX7_narrows_2 0 rfl ?_
  refine jv_getS X dX7_narrows_3 (hag.c haB) (T := TX9) (N := 4) (C := RX9) rfl in_X9 2 (by decide) q710 q711 rfl ?_
  refine jv_aload_n X dX7_narrows_6 0 rfl ?_
  refine jv_aload_n X dX7_narrows_7 1 rfl ?_
  refine jv_getN X dX7_narrows_8 ht (T := TX10) (N := 5) (C := RX10) rfl in_X10 1 (by decide) q896 rfl rfl ?_
  refine jv_iload_n X dX7_narrows_11 2 rfl ?_
  refine jv_iald (v := nI (msk S r)) X dX7_narrows_12 hma (jn_in (by omega) (by omega)) (by rw [nI_clamp (by omega)]; exact (hgm _ (by omega))) ?_
  refine jv_aload_n X dX7_narrows_13 1 rfl ?_
  refine jv_getN X dX7_narrows_14 ht (T := TX10) (N := 5) (C := RX10) rfl in_X10 2 (by decide) q898 rfl rfl ?_
  refine jv_aload_n X dX7_narrows_17 0 rfl ?_
  refine jv_getS X dX7_narrows_18 (hag.c haB) (T := TX9) (N := 4) (C := RX9) rfl in_X9 2 (by decide) q710 q711 rfl ?_
  refine jv_ask (jv_runU (As := [.int (nI (msk S r)), .ref le, .int (nI (v_ofRule S r 3))]) (rest := [.int (nI (v_ofRule S r 3)), .int (nI r), .ref t]) X dX7_narrows_21 (c_X7_impossible_X9 hle hgl (hag.c haB) (nI (msk S r)) (v_ofRule S r 3) hr1_ (by omega) hr3_ (by omega) hk.2.1) (jv_cuI X (lw_U (x := yX7_impossible) q939 q941 q942 q940 q112 q944) rfl ⟨by decide, by decide⟩ hd_X7_impossible (Nat.le_of_ble_eq_true rfl) (Nat.le_of_ble_eq_true rfl)) (hag.c haB) (show jv_cl[7]? = some (RX9, TX9, 4) from rfl) (by omega) (by omega) rfl (Nat.le_of_ble_eq_true rfl)) ?_
  refine jv_callv (jv_runV (As := [.int (nI r), .int (nI (v_ofRule S r 3)), .int (EI S r (nI (msk S r) ^^^ (-1)) (tl T) (v_ofRule S r 3))]) (rest := []) X dX7_narrows_24 (c_X10_leavesOut hG hB0 hS hL hPP hT_ hk hwT r (v_ofRule S r 3) (EI S r (nI (msk S r) ^^^ (-1)) (tl T) (v_ofRule S r 3)) (by omega) (by omega) (fun _ => Or.inr (Or.inr ⟨by rw [h0]; rfl, Or.inr rfl⟩))) (lw_V q954 q955 q956 q115 q957) hd_X10_leavesOut ht rfl (Nat.le_of_ble_eq_true rfl) (Nat.le_of_ble_eq_true rfl) (by omega) (by omega) rfl (Nat.le_of_ble_eq_true rfl)) (fun M1 hT1 => ?_)
  have hle1 : tn T ≤ tn (lvT r (v_ofRule S r 3) (EI S r (nI (msk S r) ^^^ (-1)) (tl T) (v_ofRule S r 3)) T) := lvT_le
  have hk1_ : okT (lvT r (v_ofRule S r 3) (EI S r (nI (msk S r) ^^^ (-1)) (tl T) (v_ofRule S r 3)) T) := hk.lv hr3_ _
  have hwT1_ : wfT S (lvT r (v_ofRule S r 3) (EI S r (nI (msk S r) ^^^ (-1)) (tl T) (v_ofRule S r 3)) T) := hwT.lv hk hp0 (Or.inl hr) hS1_.2 _
  obtain ⟨ma1, le1, sl1, N1, e1, mc1, gm1, gl1, f1, V1, ⟨ht1, hft1, hnt1⟩, ⟨hma1, hfma1, hnma1, hgm1⟩, ⟨hle1, hfle1, hnle1, hgl1⟩, hml1, ⟨hdl1, hnsl1, hne1⟩, hV1, hag1⟩ := id hT1
  obtain ⟨hsl1, hfsl1, hnN1, hN601, hdl41⟩ := id hdl1
  refine jv_aload_n X dX7_narrows_27 1 rfl ?_
  refine jv_iload_n X dX7_narrows_28 2 rfl ?_
  refine jv_aload_n X dX7_narrows_29 0 rfl ?_
  refine jv_getS X dX7_narrows_30 (hag1.c haB) (T := TX9) (N := 4) (C := RX9) rfl in_X9 0 (by decide) q704 q705 rfl ?_
  refine jv_aload_n X dX7_narrows_33 0 rfl ?_
  refine jv_aload_n X dX7_narrows_34 1 rfl ?_
  refine jv_getN X dX7_narrows_35 ht1 (T := TX10) (N := 5) (C := RX10) rfl in_X10 1 (by decide) q896 rfl rfl ?_
  refine jv_iload_n X dX7_narrows_38 2 rfl ?_
  refine jv_iald (v := nI (msk S r)) X dX7_narrows_39 hma1 (jn_in (by omega) (by omega)) (by rw [nI_clamp (by omega)]; exact (hgm1 _ (by omega))) ?_
  refine jv_aload_n X dX7_narrows_40 1 rfl ?_
  refine jv_getN X dX7_narrows_41 ht1 (T := TX10) (N := 5) (C := RX10) rfl in_X10 2 (by decide) q898 rfl rfl ?_
  refine jv_aload_n X dX7_narrows_44 0 rfl ?_
  refine jv_getS X dX7_narrows_45 (hag1.c haB) (T := TX9) (N := 4) (C := RX9) rfl in_X9 0 (by decide) q704 q705 rfl ?_
  refine jv_ask (jv_runU (As := [.int (nI (msk S r)), .ref le1, .int (nI (v_ofRule S r 1))]) (rest := [.int (nI (v_ofRule S r 1)), .int (nI r), .ref t]) X dX7_narrows_48 (c_X7_impossible_X9 hle1 hgl1 (hag1.c haB) (nI (msk S r)) (v_ofRule S r 1) hr1_ (by omega) hr3_ (by omega) hk1_.2.1) (jv_cuI X (lw_U (x := yX7_impossible) q939 q941 q942 q940 q112 q944) rfl ⟨by decide, by decide⟩ hd_X7_impossible (Nat.le_of_ble_eq_true rfl) (Nat.le_of_ble_eq_true rfl)) (hag1.c haB) (show jv_cl[7]? = some (RX9, TX9, 4) from rfl) (by omega) (by omega) rfl (Nat.le_of_ble_eq_true rfl)) ?_
  refine jv_callv (jv_runV (As := [.int (nI r), .int (nI (v_ofRule S r 1)), .int (EI S r (nI (msk S r) ^^^ (-1)) (tl (lvT r (v_ofRule S r 3) (EI S r (nI (msk S r) ^^^ (-1)) (tl T) (v_ofRule S r 3)) T)) (v_ofRule S r 1))]) (rest := []) X dX7_narrows_51 (c_X10_leavesOut hG hB0 hS hL hPP hT1 hk1_ hwT1_ r (v_ofRule S r 1) (EI S r (nI (msk S r) ^^^ (-1)) (tl (lvT r (v_ofRule S r 3) (EI S r (nI (msk S r) ^^^ (-1)) (tl T) (v_ofRule S r 3)) T)) (v_ofRule S r 1)) (by omega) (by omega) (fun _ => Or.inr (Or.inr ⟨by rw [h0]; rfl, Or.inl rfl⟩))) (lw_V q954 q955 q956 q115 q957) hd_X10_leavesOut ht1 rfl (Nat.le_of_ble_eq_true rfl) (Nat.le_of_ble_eq_true rfl) (by omega) (by omega) rfl (Nat.le_of_ble_eq_true rfl)) (fun M2 hT2 => ?_)
  have hle2 : tn (lvT r (v_ofRule S r 3) (EI S r (nI (msk S r) ^^^ (-1)) (tl T) (v_ofRule S r 3)) T) ≤ tn (lvT r (v_ofRule S r 1) (EI S r (nI (msk S r) ^^^ (-1)) (tl (lvT r (v_ofRule S r 3) (EI S r (nI (msk S r) ^^^ (-1)) (tl T) (v_ofRule S r 3)) T)) (v_ofRule S r 1)) (lvT r (v_ofRule S r 3) (EI S r (nI (msk S r) ^^^ (-1)) (tl T) (v_ofRule S r 3)) T)) := lvT_le
  exact jv_vret X dX7_narrows_54 hQ (by omega) (by omega) (by rw [← appT_tie (barX_2 h0) (by rw [h0]; rfl) (hPP r hr (by rw [h0]; rfl)) hr3_ hk]; exact hT2)
theorem hd_X13_narrows : jv_dd yX13_narrows 2 := by unfold jv_dd; decide +kernel
set_option maxHeartbeats 4000000 in
theorem c_X13_narrows {l : Launch} {G : jv_G} {M : jv_M} {σ : jk_A} (hG : jk_G G σ) {B : jv_M} {τ : Nat → Nat} {b t : Nat} {S : Nat → Nat} {T : t_T2} (hB : jbd G B τ b S) (hS : wfS S) (hL : wfL S) (hPP : wfP S) (hT : jtr G σ B M S b t T) (hk : okT T) (hwT : wfT S T) {a r : Nat} (hr : r < S 1)  (h0 : v_ofRule S r 0 = 3) {e1 : Nat} {f1 : Nat → Int32} (haB : B a = some (.inr (11, [.int (-5), .int (-5), .int (-5), .int (-5), .ref e1]))) (heB : B e1 = some (.inl (G.2.2.1 0, 6, .inl f1))) (hf1 : ∀ p, p < 6 → f1 p = sI (lsd S r p)) : jv_Ct G l yX13_narrows cX13_narrows 5 (none) 9 (2 * (tn (appT S r T) - tn T)) (64 * (tn (appT S r T) - tn T)) 297 [.ref a, .ref t, .int (nI r)] M (jv_qv G (fun M' => jtr G σ B M' S b t (appT S r T))) := by
  refine jv_Ct.of (lv := [(0, .ref a), (1, .ref t), (2, .int (nI r))]) (by decide) (Nat.le_of_ble_eq_true rfl) rfl ?_
  intro x Q_ hl_ hQ X
  subst hl_
  have hT_ := hT
  have hB0 := hB
  obtain ⟨ma, le, sl, N, e, mc, gm, gl, f, V, ⟨ht, hft, hnt⟩, ⟨hma, hfma, hnma, hgm⟩, ⟨hle, hfle, hnle, hgl⟩, hml, ⟨hdl, hnsl, hne⟩, hV, hag⟩ := hT
  obtain ⟨hsl, hfsl, hnN, hN60, hdl4⟩ := id hdl
  have hn36 := hk.1
  have hW := hS.1
  have hp0 := hW.p
  have hr0 := hW.r
  have hr1_ := hW.r1 (show r < 30 by omega)
  have hr2_ := hW.r2 (show r < 30 by omega)
  have hr3_ := hW.r3 (show r < 30 by omega)
  have hS1_ := hS.2.1 r hr
  refine jv_iconst (v := nI 0) X dX13_narrows_0 rfl ?_
  refine jv_istore_n (lv' := [(3, .int (nI 0)), (0, .ref a), (1, .ref t), (2, .int (nI r))]) X dX13_narrows_1 rfl (by decide) rfl ?_
  have lp2_1 : ∀ (d_2 : Nat) (q : Nat), q ≤ 6 → aplF S r T 6 0 = aplF S r T (6 - q) q → 6 - q < d_2 → jv_J x G 5 Q_ M 0 0 2 [(0, .ref a), (1, .ref t), (2, .int (nI r)), (3, .int (nI q))] [] := by
    intro d_2
    induction d_2 with
    | zero => intro q hq hw hm_2; exact absurd hm_2 (Nat.not_lt_zero _)
    | succ d_2 ih_2 =>
      intro q hq hw hm_2
      refine jv_iload_n X dX13_narrows_2 3 rfl ?_
      refine jv_bipush (v := nI 6) X dX13_narrows_3 rfl ?_
      refine jn_icmp_ge 55 X dX13_narrows_5 (by decide) (by omega) (by decide) (fun c5 => ?_) (fun c5 => ?_)
      · skip
        exact jv_vret X dX13_narrows_55 hQ (by omega) (by omega) (by rw [appT_3 hW hL hr h0, hw, show 6 - q = 0 by omega]; exact hT_)
      · skip
        refine jv_aload_n X dX13_narrows_8 0 rfl ?_
        refine jv_get X dX13_narrows_9 (hag.c haB) (T := TX13) (N := 5) (C := RX13) rfl in_X13 4 (by decide) q1161 rfl rfl ?_
        refine jv_iload_n X dX13_narrows_12 3 rfl ?_
        refine jv_iald (v := sI (lsd S r q)) X dX13_narrows_13 (hag.c heB) (jn_in (by omega) (by decide)) (by rw [nI_clamp (by omega)]; exact (hf1 _ (by omega))) ?_
        refine jv_bipush (v := (-5)) X dX13_narrows_14 rfl ?_
        have j33_2 : ∀ sw : Int32, sw = (if (sI (lsd S r q)) = (-5) then (nI 0) else (if imN S r (tl T) q 6 = true then nI (2 ^ (lsd S r q - 1)) else nI 0)) → jv_J x G 5 Q_ M 0 0 33 [(0, .ref a), (1, .ref t), (2, .int (nI r)), (3, .int (nI q))] [.int sw] := by
          intro sw e_sw
          refine jv_istore (lv' := [(4, .int sw), (0, .ref a), (1, .ref t), (2, .int (nI r)), (3, .int (nI q))]) X dX13_narrows_33 (by decide) rfl ?_
          refine jv_iload X dX13_narrows_35 0 rfl ?_
          refine jv_if_eq 49 X dX13_narrows_37 (by decide) (fun c37 => ?_) (fun c37 => ?_)
          · skip
            refine jv_iinc (v := nI (q + 1)) (lv' := [(3, .int (nI (q + 1))), (4, .int sw), (0, .ref a), (1, .ref t), (2, .int (nI r))]) X dX13_narrows_49 4 rfl (nI_1 _) (by decide) rfl ?_
            refine jv_goto 2 X dX13_narrows_52 (by decide) ?_
            refine jv_lv (lv' := [(0, .ref a), (1, .ref t), (2, .int (nI r)), (3, .int (nI (q + 1)))]) [2, 3, 4, 0] rfl ?_
            exact ih_2 (q + 1) (by omega) (hw.trans (by
                rw [show 6 - q = (6 - (q + 1)) + 1 by omega, aplF_st hW hL hr h0 (by omega), if_neg]
                intro z
                have h5 : ¬ sI (lsd S r q) = (-5) := fun z5 => z.1 ((sI_5 (lsd_lt S r q)).mp z5)
                rw [if_neg h5, if_pos z.2] at e_sw
                exact pow2_nz (by have := lsd_lt S r q; omega) (e_sw.symm.trans c37))) (by omega)
          · skip
            have hx_ : ¬ lsd S r q = 0 ∧ imN S r (tl T) q 6 = true ∧ sw = nI (2 ^ (lsd S r q - 1)) := by
              by_cases z1 : sI (lsd S r q) = (-5)
              · exact absurd (by rw [e_sw, if_pos z1]; rfl) c37
              · by_cases z2 : imN S r (tl T) q 6 = true
                · exact ⟨fun z => z1 ((sI_5 (lsd_lt S r q)).mpr z), z2, by rw [e_sw, if_neg z1, if_pos z2]⟩
                · exact absurd (by rw [e_sw, if_neg z1, if_neg z2]; rfl) c37
            have hap_ : tn (lvT r q sw T) = tn (appT S r T) := congrArg tn (by rw [appT_3 hW hL hr h0, hw, show 6 - q = (5 - q) + 1 by omega, aplF_st hW hL hr h0 (by omega), if_pos ⟨hx_.1, hx_.2.1⟩, ← hx_.2.2])
            refine jv_aload_n X dX13_narrows_40 2 rfl ?_
            refine jv_iload_n X dX13_narrows_41 3 rfl ?_
            refine jv_iload_n X dX13_narrows_42 4 rfl ?_
            refine jv_iload X dX13_narrows_43 0 rfl ?_
            refine jv_callv (jv_runV (As := [.int (nI r), .int (nI q), .int sw]) (rest := []) X dX13_narrows_45 (c_X10_leavesOut hG hB0 hS hL hPP hT_ hk hwT r q sw (by omega) (Nat.lt_of_not_le fun z => hx_.1 ((hL r hr h0).2 q z)) (fun _ => Or.inr (Or.inl ⟨h0, hx_.1⟩))) (lw_V q1011 q955 q956 q115 q957) hd_X10_leavesOut ht rfl (Nat.le_of_ble_eq_true rfl) (Nat.le_of_ble_eq_true rfl) (by omega) (by omega) rfl (Nat.le_of_ble_eq_true rfl)) (fun M3 hT3 => ?_)
            have hle3 : tn T ≤ tn (lvT r q sw T) := lvT_le
            exact jv_vret X dX13_narrows_48 hQ (by omega) (by omega) (by rw [appT_3 hW hL hr h0, hw, show 6 - q = (5 - q) + 1 by omega, aplF_st hW hL hr h0 (by omega), if_pos ⟨hx_.1, hx_.2.1⟩, ← hx_.2.2]; exact hT3)
        refine jv_icmp_ne 23 X dX13_narrows_16 (by decide) (fun c16 => ?_) (fun c16 => ?_)
        · skip
          refine jv_aload_n X dX13_narrows_23 0 rfl ?_
          refine jv_iconst (v := nI 0) X dX13_narrows_24 rfl ?_
          refine jv_aload_n X dX13_narrows_25 1 rfl ?_
          refine jv_getN X dX13_narrows_26 ht (T := TX10) (N := 5) (C := RX10) rfl in_X10 2 (by decide) q899 rfl rfl ?_
          refine jv_iload_n X dX13_narrows_29 3 rfl ?_
          refine jv_ask (jv_runV (As := [.int (nI 0), .ref le, .int (nI q)]) (rest := []) X dX13_narrows_30 (c_X13_impossible hle hgl (hag.c haB) (hag.c heB) hf1 (nI 0) q (by omega) (fun z => c16 ((sI_5 (lsd_lt S r q)).mpr z)) hk.2.1) (lw_V q1007 q1008 q1009 q121 q1010) hd_X13_impossible (hag.c haB) rfl (Nat.le_of_ble_eq_true rfl) (Nat.le_of_ble_eq_true rfl) (Nat.le_of_ble_eq_true rfl) (Nat.le_of_ble_eq_true rfl) rfl (Nat.le_of_ble_eq_true rfl)) ?_
          exact j33_2 _ (if_neg c16).symm
        · skip
          refine jv_iconst (v := nI 0) X dX13_narrows_19 rfl ?_
          refine jv_goto 33 X dX13_narrows_20 (by decide) ?_
          exact j33_2 _ (if_pos c16).symm
  refine jv_lv (lv' := [(0, .ref a), (1, .ref t), (2, .int (nI r)), (3, .int (nI 0))]) [1, 2, 3, 0] rfl ?_
  exact lp2_1 (6 + 1) 0 (by decide) rfl (Nat.lt_succ_self _)
section JN_
variable {x : jv_X} {G : jv_G} {y : MethodName} {cc : ByteArray} {nL fr mc ms lo : Nat} {ret : Option FieldType} {Q : State → Prop} {M B : jv_M} {k n pc : Nat} {lv : List (Nat × Value)} {st rest : List Value} {σ : jk_A} {τ : Nat → Nat} {S : Nat → Nat} {r a b t index : Nat} {T : t_T2}
theorem jr_narrows (X : jv_C x G y cc nL ret fr mc ms lo) (d : decode cc pc = .ok (.invokevirtual index, 3)) (hl : Cond.methodLink y.cls index yA_Rule_narrows ∈ lw_all) (hG : jk_G G σ) (hB : jbd G B τ b S) (hS : wfS S) (hL : wfL S) (hPP : wfP S) (hT : jtr G σ B M S b t T) (hk_ : okT T) (hwT : wfT S T) (hr : r < S 1) (ha : jrule G B τ S r a) (hfr : 20 ≤ fr) (hlo : 700 ≤ lo) (hk : k + 2 * (tn (appT S r T) - tn T) ≤ mc) (hn : n + 64 * (tn (appT S r T) - tn T) ≤ ms) (hrm : (rest.map fun v => v.category).sum ≤ 8) : jv_Run x G nL M k n (2 * (tn (appT S r T) - tn T)) (64 * (tn (appT S r T) - tn T)) pc lv ([.ref t, .int (nI r)].reverse ++ .ref a :: rest) rest (jv_qv G (fun M' => jtr G σ B M' S b t (appT S r T)) (Value.ref a :: [.ref t, .int (nI r)]).toArray) := by
  have hag : jag B M := by obtain ⟨_, _, _, _, _, _, _, _, _, _, h⟩ := hT; exact h.2.2.2.2.2.2
  obtain ⟨-, ⟨h0, h⟩ | ⟨h0, h⟩ | ⟨h0, h⟩ | ⟨h0, e, f, -, h, he, hf⟩⟩ := ha
  · exact jv_runU (C := RX6) (T := TX6) (N := 4) (As := [.ref t, .int (nI r)]) X d (c_X6_narrows hG hB hS hL hPP hT hk_ hwT hr h0 h) (jv_cuA X (lw_U (x := yA_Rule_narrows) hl q935 q1013 q1014 q111 q1015) q934 ⟨by decide, by decide⟩ hd_yA_Rule_narrows (by omega) (by omega)) (hag.c h) rfl hk hn rfl hrm
  · exact jv_runU (C := RX8) (T := TX8) (N := 4) (As := [.ref t, .int (nI r)]) X d (c_X7_narrows_X8 hG hB hS hL hPP hT hk_ hwT hr h0 h) (jv_cuA X (lw_U (x := yA_Rule_narrows) hl q935 q1012 q937 q112 q938) q934 ⟨by decide, by decide⟩ hd_yA_Rule_narrows (by omega) (by omega)) (hag.c h) rfl hk hn rfl hrm
  · exact jv_runU (C := RX9) (T := TX9) (N := 4) (As := [.ref t, .int (nI r)]) X d (c_X7_narrows_X9 hG hB hS hL hPP hT hk_ hwT hr h0 h) (jv_cuA X (lw_U (x := yA_Rule_narrows) hl q935 q936 q937 q112 q938) q934 ⟨by decide, by decide⟩ hd_yA_Rule_narrows (by omega) (by omega)) (hag.c h) rfl hk hn rfl hrm
  · exact jv_runU (C := RX13) (T := TX13) (N := 5) (As := [.ref t, .int (nI r)]) X d (c_X13_narrows hG hB hS hL hPP hT hk_ hwT hr h0 h he hf) (jv_cuA X (lw_U (x := yA_Rule_narrows) hl q935 q1004 q1005 q121 q1006) q934 ⟨by decide, by decide⟩ hd_yA_Rule_narrows (by omega) (by omega)) (hag.c h) rfl hk hn rfl hrm
end JN_
