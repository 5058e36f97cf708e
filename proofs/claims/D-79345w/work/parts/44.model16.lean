/-! reference, sixteenth -/
set_option maxRecDepth 100000
theorem jt_out11 {u : Int32} (h0 : ¬ u = nI 0) (h1 : ¬ u = nI 1) (h2 : ¬ u = nI 2) (h3 : ¬ u = nI 3) (h4 : ¬ u = nI 4) (h5 : ¬ u = nI 5) (h6 : ¬ u = nI 6) (h7 : ¬ u = nI 7) (h8 : ¬ u = nI 8) (h9 : ¬ u = nI 9) (h10 : ¬ u = nI 10) : u.toInt < 0 ∨ 10 < u.toInt := by
  refine Classical.byContradiction fun z => ?_
  obtain ⟨j, hj, rfl⟩ := jt_nat (u := u) (m := 10) (by omega) (by omega)
  rcases (by omega : j = 0 ∨ j = 1 ∨ j = 2 ∨ j = 3 ∨ j = 4 ∨ j = 5 ∨ j = 6 ∨ j = 7 ∨ j = 8 ∨ j = 9 ∨ j = 10) with rfl | rfl | rfl | rfl | rfl | rfl | rfl | rfl | rfl | rfl | rfl
  · exact h0 rfl
  · exact h1 rfl
  · exact h2 rfl
  · exact h3 rfl
  · exact h4 rfl
  · exact h5 rfl
  · exact h6 rfl
  · exact h7 rfl
  · exact h8 rfl
  · exact h9 rfl
  · exact h10 rfl
def m_account (z : t_Z) (S : Nat → Nat) (what : Int32) : Int32 := if what = nI 0 then nI (S 0) else if what = nI 1 then nI (sumN S (gA S) 0 (S 0)) else if what = nI 2 then nI (S 1) else if what = nI 3 then nI (lruN S (S 1)) else if what = nI 4 then nI (S 2) else if what = nI 5 then nI (tn (gA S)) else if what = nI 6 then nI (sumN S (gA S) 2 (S 0)) else if what = nI 7 then nI (cntN (prT S (gA S)) 64) else if what = nI 8 then nI (sumN S (gA S) 1 (S 0)) else if what = nI 9 then nI (zk z) else if what = nI 10 then nI (zl z) else (-1)
theorem cnt6 : ∀ n, n < 64 → cntN n 64 ≤ 6 := by decide +kernel
theorem sum2 {S : Nat → Nat} {T : t_T2} (hk : okT T) : ∀ q, q ≤ 6 → sumN S T 2 q ≤ 6 * q
  | 0, _ => Nat.le_refl _
  | q + 1, h => by
    have h1 := sum2 (S := S) hk q (by omega)
    have h2 := cnt6 _ (hk.2.1 q (by omega))
    rw [sumN, if_pos (by decide)]
    omega
theorem nan_ok : ∀ a, a < 37 → ∀ b, b < 7 → 0 < b → FP.ddiv (FP.i2d (nI a)) (FP.i2d (nI b)) &&& 0x7fffffffffffffff ≤ 0x7ff0000000000000 := by decide +kernel
def m_mean (S : Nat → Nat) : UInt64 := if S 0 = 0 then FP.dconst0 else FP.ddiv (FP.i2d (nI (sumN S (gA S) 2 (S 0)))) (FP.i2d (nI (S 0)))
theorem hd_X2_account : jv_dd yX2_account 1 := by unfold jv_dd; decide +kernel
set_option maxHeartbeats 4000000 in
theorem c_X2_account {l : Launch} {G : jv_G} {o : md_O} {F : Nat → Int32} {A : Nat → Nat → Int32} {S : Nat → Nat} (hO : md_K G o) (hS : ∀ j, j < 237 → A 0 j = nI (S j)) (what : Int32) (hWs : wfS S) {z : t_Z} (hz : isZ F A z) (hk8 : zk z ≤ 8) (hl6 : zl z ≤ 60) : jv_Ct G l yX2_account cX2_account 2 (some .int) 7 0 0 164 [.ref o.2.1, .int what] (md_M G o F A) (jv_qi G (fun r M' => r = m_account z S what ∧ mT G o S F A (gA S) M')) := by
  refine jv_Ct.of (lv := [(0, .ref o.2.1), (1, .int what)]) (by decide) (Nat.le_of_ble_eq_true rfl) rfl ?_
  intro x Q_ hl_ hQ X
  subst hl_
  have hW := hWs.1
  have hS0 := hW.p
  have hok := okT.ga hW
  have hwf := wfT.ga hWs
  have hn36 : tn (gA S) ≤ 36 := by have := hok.1; omega
  have hrr := hW.r
  have haa := hW.a
  have hpl := prT_lt S hok
  refine jv_aload_n X dX2_account_0 0 rfl ?_
  refine jv_callv (jv_runV (As := []) (rest := []) X dX2_account_1 (c_X2_goesAll hO hS hWs) (lw_V q2221 q2223 qs56 q100 q2224) hd_X2_goesAll md_M_o rfl (Nat.le_of_ble_eq_true rfl) (Nat.le_of_ble_eq_true rfl) (Nat.le_of_ble_eq_true rfl) (Nat.le_of_ble_eq_true rfl) rfl (Nat.le_of_ble_eq_true rfl)) (fun M_ h_ => ?_)
  obtain ⟨F1, A1, rfl, hT1, hK1⟩ := h_
  have hS1 := hK1.S hS
  have hk1 := okT.ga hW
  skip
  refine jv_iload_n X dX2_account_4 1 rfl ?_
  by_cases c5_0 : what = nI 0
  · skip
    refine jv_tableIn 64 X dX2_account_5 (by rw [c5_0]; decide) (by rw [c5_0]; decide) (by rw [c5_0]; rfl) (by decide) ?_
    subst c5_0
    refine jv_aload_n X dX2_account_64 0 rfl ?_
    refine jm_getA X dX2_account_65 0 (by decide) q2010 rfl ?_
    refine jv_iconst (v := nI 0) X dX2_account_68 rfl ?_
    refine jm_ld (v := nI (S 0)) X hO dX2_account_69 0 (by decide) (show 0 < 237 from (by omega)) (hS1 _ (by omega)) ?_
    exact jv_iret (v := nI (S 0)) X dX2_account_70 rfl hQ (Nat.le_of_ble_eq_true rfl) (Nat.le_of_ble_eq_true rfl) ⟨(by rw [m_account, if_pos rfl]), _, _, rfl, hT1, hK1⟩
  · skip
    by_cases c5_1 : what = nI 1
    · skip
      refine jv_tableIn 71 X dX2_account_5 (by rw [c5_1]; decide) (by rw [c5_1]; decide) (by rw [c5_1]; rfl) (by decide) ?_
      subst c5_1
      refine jv_aload_n X dX2_account_71 0 rfl ?_
      refine jv_iconst (v := nI 0) X dX2_account_72 rfl ?_
      refine jv_ask (jv_runV (As := [.int (nI 0)]) (rest := []) X dX2_account_73 (c_X2_sumOf hO hS1 hT1 hk1 hwf 0 (by omega) hWs) (lw_V q2445 q2447 qs87 q100 q2448) hd_X2_sumOf md_M_o rfl (Nat.le_of_ble_eq_true rfl) (Nat.le_of_ble_eq_true rfl) (Nat.le_of_ble_eq_true rfl) (Nat.le_of_ble_eq_true rfl) rfl (Nat.le_of_ble_eq_true rfl)) ?_
      exact jv_iret (v := nI (sumN S (gA S) 0 (S 0))) X dX2_account_76 rfl hQ (Nat.le_of_ble_eq_true rfl) (Nat.le_of_ble_eq_true rfl) ⟨(by rw [m_account, if_neg c5_0, if_pos rfl]), _, _, rfl, hT1, hK1⟩
    · skip
      by_cases c5_2 : what = nI 2
      · skip
        refine jv_tableIn 77 X dX2_account_5 (by rw [c5_2]; decide) (by rw [c5_2]; decide) (by rw [c5_2]; rfl) (by decide) ?_
        subst c5_2
        refine jv_aload_n X dX2_account_77 0 rfl ?_
        refine jm_getA X dX2_account_78 0 (by decide) q2010 rfl ?_
        refine jv_iconst (v := nI 1) X dX2_account_81 rfl ?_
        refine jm_ld (v := nI (S 1)) X hO dX2_account_82 0 (by decide) (show 1 < 237 from (by omega)) (hS1 _ (by omega)) ?_
        exact jv_iret (v := nI (S 1)) X dX2_account_83 rfl hQ (Nat.le_of_ble_eq_true rfl) (Nat.le_of_ble_eq_true rfl) ⟨(by rw [m_account, if_neg c5_0, if_neg c5_1, if_pos rfl]), _, _, rfl, hT1, hK1⟩
      · skip
        by_cases c5_3 : what = nI 3
        · skip
          refine jv_tableIn 84 X dX2_account_5 (by rw [c5_3]; decide) (by rw [c5_3]; decide) (by rw [c5_3]; rfl) (by decide) ?_
          subst c5_3
          refine jv_aload_n X dX2_account_84 0 rfl ?_
          refine jv_ask (jv_runV (As := []) (rest := []) X dX2_account_85 (c_X2_learnedRules hO hS1 hW) (lw_V q2452 q2454 qs88 q100 q2455) hd_X2_learnedRules md_M_o rfl (Nat.le_of_ble_eq_true rfl) (Nat.le_of_ble_eq_true rfl) (Nat.le_of_ble_eq_true rfl) (Nat.le_of_ble_eq_true rfl) rfl (Nat.le_of_ble_eq_true rfl)) ?_
          exact jv_iret (v := nI (lruN S (S 1))) X dX2_account_88 rfl hQ (Nat.le_of_ble_eq_true rfl) (Nat.le_of_ble_eq_true rfl) ⟨(by rw [m_account, if_neg c5_0, if_neg c5_1, if_neg c5_2, if_pos rfl]), _, _, rfl, hT1, hK1⟩
        · skip
          by_cases c5_4 : what = nI 4
          · skip
            refine jv_tableIn 89 X dX2_account_5 (by rw [c5_4]; decide) (by rw [c5_4]; decide) (by rw [c5_4]; rfl) (by decide) ?_
            subst c5_4
            refine jv_aload_n X dX2_account_89 0 rfl ?_
            refine jm_getA X dX2_account_90 0 (by decide) q2010 rfl ?_
            refine jv_iconst (v := nI 2) X dX2_account_93 rfl ?_
            refine jm_ld (v := nI (S 2)) X hO dX2_account_94 0 (by decide) (show 2 < 237 from (by omega)) (hS1 _ (by omega)) ?_
            exact jv_iret (v := nI (S 2)) X dX2_account_95 rfl hQ (Nat.le_of_ble_eq_true rfl) (Nat.le_of_ble_eq_true rfl) ⟨(by rw [m_account, if_neg c5_0, if_neg c5_1, if_neg c5_2, if_neg c5_3, if_pos rfl]), _, _, rfl, hT1, hK1⟩
          · skip
            by_cases c5_5 : what = nI 5
            · skip
              refine jv_tableIn 96 X dX2_account_5 (by rw [c5_5]; decide) (by rw [c5_5]; decide) (by rw [c5_5]; rfl) (by decide) ?_
              subst c5_5
              refine jv_aload_n X dX2_account_96 0 rfl ?_
              refine jm_getF (v := nI (tn (gA S))) X dX2_account_97 16 (by decide) q2026 rfl hT1.1 ?_
              exact jv_iret (v := nI (tn (gA S))) X dX2_account_100 rfl hQ (Nat.le_of_ble_eq_true rfl) (Nat.le_of_ble_eq_true rfl) ⟨(by rw [m_account, if_neg c5_0, if_neg c5_1, if_neg c5_2, if_neg c5_3, if_neg c5_4, if_pos rfl]), _, _, rfl, hT1, hK1⟩
            · skip
              by_cases c5_6 : what = nI 6
              · skip
                refine jv_tableIn 101 X dX2_account_5 (by rw [c5_6]; decide) (by rw [c5_6]; decide) (by rw [c5_6]; rfl) (by decide) ?_
                subst c5_6
                refine jv_aload_n X dX2_account_101 0 rfl ?_
                refine jv_iconst (v := nI 2) X dX2_account_102 rfl ?_
                refine jv_ask (jv_runV (As := [.int (nI 2)]) (rest := []) X dX2_account_103 (c_X2_sumOf hO hS1 hT1 hk1 hwf 2 (by omega) hWs) (lw_V q2445 q2447 qs87 q100 q2448) hd_X2_sumOf md_M_o rfl (Nat.le_of_ble_eq_true rfl) (Nat.le_of_ble_eq_true rfl) (Nat.le_of_ble_eq_true rfl) (Nat.le_of_ble_eq_true rfl) rfl (Nat.le_of_ble_eq_true rfl)) ?_
                exact jv_iret (v := nI (sumN S (gA S) 2 (S 0))) X dX2_account_106 rfl hQ (Nat.le_of_ble_eq_true rfl) (Nat.le_of_ble_eq_true rfl) ⟨(by rw [m_account, if_neg c5_0, if_neg c5_1, if_neg c5_2, if_neg c5_3, if_neg c5_4, if_neg c5_5, if_pos rfl]), _, _, rfl, hT1, hK1⟩
              · skip
                by_cases c5_7 : what = nI 7
                · skip
                  refine jv_tableIn 107 X dX2_account_5 (by rw [c5_7]; decide) (by rw [c5_7]; decide) (by rw [c5_7]; rfl) (by decide) ?_
                  subst c5_7
                  refine jv_aload_n X dX2_account_107 0 rfl ?_
                  refine jv_askl (jv_runV (As := []) (rest := []) X dX2_account_108 (c_X2_proofOf hO hS1 hT1 hk1 hwf hWs) (lw_V q2281 q2283 qs66 q100 q2284) hd_X2_proofOf md_M_o rfl (Nat.le_of_ble_eq_true rfl) (Nat.le_of_ble_eq_true rfl) (Nat.le_of_ble_eq_true rfl) (Nat.le_of_ble_eq_true rfl) rfl (Nat.le_of_ble_eq_true rfl)) ?_
                  refine jv_ask (jv_runS (As := [.long (lN (prT S (gA S)))]) (rest := []) X dX2_account_111 (c_X2_count (prT S (gA S)) (by omega)) (lw_S q2449 q2450 q100 q2451) hd_X2_count (Nat.le_of_ble_eq_true rfl) (Nat.le_of_ble_eq_true rfl) (Nat.le_of_ble_eq_true rfl) (Nat.le_of_ble_eq_true rfl) rfl (Nat.le_of_ble_eq_true rfl)) ?_
                  exact jv_iret (v := nI (cntN (prT S (gA S)) 64)) X dX2_account_114 rfl hQ (Nat.le_of_ble_eq_true rfl) (Nat.le_of_ble_eq_true rfl) ⟨(by rw [m_account, if_neg c5_0, if_neg c5_1, if_neg c5_2, if_neg c5_3, if_neg c5_4, if_neg c5_5, if_neg c5_6, if_pos rfl]), _, _, rfl, hT1, hK1⟩
                · skip
                  by_cases c5_8 : what = nI 8
                  · skip
                    refine jv_tableIn 115 X dX2_account_5 (by rw [c5_8]; decide) (by rw [c5_8]; decide) (by rw [c5_8]; rfl) (by decide) ?_
                    subst c5_8
                    refine jv_aload_n X dX2_account_115 0 rfl ?_
                    refine jv_iconst (v := nI 1) X dX2_account_116 rfl ?_
                    refine jv_ask (jv_runV (As := [.int (nI 1)]) (rest := []) X dX2_account_117 (c_X2_sumOf hO hS1 hT1 hk1 hwf 1 (by omega) hWs) (lw_V q2445 q2447 qs87 q100 q2448) hd_X2_sumOf md_M_o rfl (Nat.le_of_ble_eq_true rfl) (Nat.le_of_ble_eq_true rfl) (Nat.le_of_ble_eq_true rfl) (Nat.le_of_ble_eq_true rfl) rfl (Nat.le_of_ble_eq_true rfl)) ?_
                    exact jv_iret (v := nI (sumN S (gA S) 1 (S 0))) X dX2_account_120 rfl hQ (Nat.le_of_ble_eq_true rfl) (Nat.le_of_ble_eq_true rfl) ⟨(by rw [m_account, if_neg c5_0, if_neg c5_1, if_neg c5_2, if_neg c5_3, if_neg c5_4, if_neg c5_5, if_neg c5_6, if_neg c5_7, if_pos rfl]), _, _, rfl, hT1, hK1⟩
                  · skip
                    by_cases c5_9 : what = nI 9
                    · skip
                      refine jv_tableIn 121 X dX2_account_5 (by rw [c5_9]; decide) (by rw [c5_9]; decide) (by rw [c5_9]; rfl) (by decide) ?_
                      subst c5_9
                      refine jv_aload_n X dX2_account_121 0 rfl ?_
                      refine jm_getF (v := nI (zk z)) X dX2_account_122 4 (by decide) q2014 rfl ((hK1.1 4 (by decide) (by decide)).trans hz.kp) ?_
                      exact jv_iret (v := nI (zk z)) X dX2_account_125 rfl hQ (Nat.le_of_ble_eq_true rfl) (Nat.le_of_ble_eq_true rfl) ⟨(by rw [m_account, if_neg c5_0, if_neg c5_1, if_neg c5_2, if_neg c5_3, if_neg c5_4, if_neg c5_5, if_neg c5_6, if_neg c5_7, if_neg c5_8, if_pos rfl]), _, _, rfl, hT1, hK1⟩
                    · skip
                      by_cases c5_10 : what = nI 10
                      · skip
                        refine jv_tableIn 126 X dX2_account_5 (by rw [c5_10]; decide) (by rw [c5_10]; decide) (by rw [c5_10]; rfl) (by decide) ?_
                        subst c5_10
                        refine jv_aload_n X dX2_account_126 0 rfl ?_
                        refine jm_getF (v := nI (zl z)) X dX2_account_127 7 (by decide) q2017 rfl ((hK1.1 7 (by decide) (by decide)).trans hz.2.2.2.2.2.1) ?_
                        exact jv_iret (v := nI (zl z)) X dX2_account_130 rfl hQ (Nat.le_of_ble_eq_true rfl) (Nat.le_of_ble_eq_true rfl) ⟨(by rw [m_account, if_neg c5_0, if_neg c5_1, if_neg c5_2, if_neg c5_3, if_neg c5_4, if_neg c5_5, if_neg c5_6, if_neg c5_7, if_neg c5_8, if_neg c5_9, if_pos rfl]), _, _, rfl, hT1, hK1⟩
                      · skip
                        refine jv_tableOut 131 X dX2_account_5 (jt_out11 c5_0 c5_1 c5_2 c5_3 c5_4 c5_5 c5_6 c5_7 c5_8 c5_9 c5_10) (by decide) ?_
                        refine jv_iconst (v := (-1)) X dX2_account_131 rfl ?_
                        exact jv_iret (v := (-1)) X dX2_account_132 rfl hQ (Nat.le_of_ble_eq_true rfl) (Nat.le_of_ble_eq_true rfl) ⟨(by rw [m_account, if_neg c5_0, if_neg c5_1, if_neg c5_2, if_neg c5_3, if_neg c5_4, if_neg c5_5, if_neg c5_6, if_neg c5_7, if_neg c5_8, if_neg c5_9, if_neg c5_10]), _, _, rfl, hT1, hK1⟩
theorem hd_X2_meanStates : jv_dd yX2_meanStates 0 := by unfold jv_dd; decide +kernel
set_option maxHeartbeats 4000000 in
theorem c_X2_meanStates {l : Launch} {G : jv_G} {o : md_O} {F : Nat → Int32} {A : Nat → Nat → Int32} {S : Nat → Nat} (hO : md_K G o) (hS : ∀ j, j < 237 → A 0 j = nI (S j))  (hWs : wfS S) : jv_Ct G l yX2_meanStates cX2_meanStates 1 (some .double) 7 0 0 164 [.ref o.2.1] (md_M G o F A) (jv_qd G (fun r M' => r = m_mean S ∧ mT G o S F A (gA S) M')) := by
  refine jv_Ct.of (lv := [(0, .ref o.2.1)]) (by decide) (Nat.le_of_ble_eq_true rfl) rfl ?_
  intro x Q_ hl_ hQ X
  subst hl_
  have hW := hWs.1
  have hS0 := hW.p
  have hok := okT.ga hW
  have hwf := wfT.ga hWs
  have hn36 : tn (gA S) ≤ 36 := by have := hok.1; omega
  refine jv_aload_n X dX2_meanStates_0 0 rfl ?_
  refine jv_callv (jv_runV (As := []) (rest := []) X dX2_meanStates_1 (c_X2_goesAll hO hS hWs) (lw_V q2221 q2223 qs56 q100 q2224) hd_X2_goesAll md_M_o rfl (Nat.le_of_ble_eq_true rfl) (Nat.le_of_ble_eq_true rfl) (Nat.le_of_ble_eq_true rfl) (Nat.le_of_ble_eq_true rfl) rfl (Nat.le_of_ble_eq_true rfl)) (fun M_ h_ => ?_)
  obtain ⟨F1, A1, rfl, hT1, hK1⟩ := h_
  have hS1 := hK1.S hS
  have hk1 := okT.ga hW
  skip
  refine jv_aload_n X dX2_meanStates_4 0 rfl ?_
  refine jm_getA X dX2_meanStates_5 0 (by decide) q2010 rfl ?_
  refine jv_iconst (v := nI 0) X dX2_meanStates_8 rfl ?_
  refine jm_ld (v := nI (S 0)) X hO dX2_meanStates_9 0 (by decide) (show 0 < 237 from (by omega)) (hS1 _ (by omega)) ?_
  refine jn_if_ne 17 X dX2_meanStates_10 (by decide) (by omega) (fun c10 => ?_) (fun c10 => ?_)
  · skip
    refine jv_aload_n X dX2_meanStates_17 0 rfl ?_
    refine jv_iconst (v := nI 2) X dX2_meanStates_18 rfl ?_
    refine jv_ask (jv_runV (As := [.int (nI 2)]) (rest := []) X dX2_meanStates_19 (c_X2_sumOf hO hS1 hT1 hk1 hwf 2 (by omega) hWs) (lw_V q2445 q2447 qs87 q100 q2448) hd_X2_sumOf md_M_o rfl (Nat.le_of_ble_eq_true rfl) (Nat.le_of_ble_eq_true rfl) (Nat.le_of_ble_eq_true rfl) (Nat.le_of_ble_eq_true rfl) rfl (Nat.le_of_ble_eq_true rfl)) ?_
    refine jv_i2d X dX2_meanStates_22 ?_
    refine jv_aload_n X dX2_meanStates_23 0 rfl ?_
    refine jm_getA X dX2_meanStates_24 0 (by decide) q2010 rfl ?_
    refine jv_iconst (v := nI 0) X dX2_meanStates_27 rfl ?_
    refine jm_ld (v := nI (S 0)) X hO dX2_meanStates_28 0 (by decide) (show 0 < 237 from (by omega)) (hS1 _ (by omega)) ?_
    refine jv_i2d X dX2_meanStates_29 ?_
    refine jv_ddiv X dX2_meanStates_30 (nan_ok _ (by have := sum2 (S := S) hok (S 0) hS0; omega) _ (by omega) (by omega)) ?_
    exact jv_dret X dX2_meanStates_31 hQ (Nat.le_of_ble_eq_true rfl) (Nat.le_of_ble_eq_true rfl) ⟨(by rw [m_mean, if_neg c10]), _, _, rfl, hT1, hK1⟩
  · skip
    refine jv_dconst0 X dX2_meanStates_13 ?_
    refine jv_goto 31 X dX2_meanStates_14 (by decide) ?_
    exact jv_dret X dX2_meanStates_31 hQ (Nat.le_of_ble_eq_true rfl) (Nat.le_of_ble_eq_true rfl) ⟨(by rw [m_mean, if_pos c10]), _, _, rfl, hT1, hK1⟩
