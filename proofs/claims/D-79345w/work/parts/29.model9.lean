/-! reference, ninth -/
set_option maxRecDepth 100000
theorem hd_X2_tries : jv_dd yX2_tries 3 := by unfold jv_dd; decide +kernel
set_option maxHeartbeats 4000000 in
theorem c_X2_tries0 {l : Launch} {G : jv_G} {o : md_O} {S : Nat → Nat} (hO : md_K G o) (hWs : wfS S) (hL : wfL S) (m : Int32) (most : Nat) (hmost : most < 2 ^ 31) {F : Nat → Int32} {A : Nat → Nat → Int32} {c : Nat → Nat} {Y : t_Y} (hS : ∀ j, j < 237 → A 0 j = nI (S j)) (hC : ∀ q, q < S 0 → A 18 q = nI (c q)) (hcl : ∀ q, q < S 0 → c q ≤ 5) (hY : isY S F A Y) (hY6 : Y.1 + 1 ≤ 46656) : jv_Ct G l yX2_tries cX2_tries 5 none 5 0 0 121 [.ref o.2.1, .int (nI (S 0)), .int m, .int (nI most)] (md_M G o F A) (jv_qv G (mY G o S (S 0) F A (triF S m most 0 c Y))) := by
  refine jv_Ct.of (lv := [(0, .ref o.2.1), (1, .int (nI (S 0))), (2, .int m), (3, .int (nI most))]) (by decide) (Nat.le_of_ble_eq_true rfl) rfl ?_
  intro x Q_ hl_ hQ X
  subst hl_
  have hW := hWs.1
  have hS0 := hW.p
  refine jv_iload_n X dX2_tries_0 1 rfl ?_
  refine jv_aload_n X dX2_tries_1 0 rfl ?_
  refine jm_getA X dX2_tries_2 0 (by decide) q2010 rfl ?_
  refine jv_iconst (v := nI 0) X dX2_tries_5 rfl ?_
  refine jm_ld (v := nI (S 0)) X hO dX2_tries_6 0 (by decide) (show 0 < 237 from (by omega)) (hS _ (by omega)) ?_
  refine jn_icmp_ne 101 X dX2_tries_7 (by decide) (by omega) (by omega) (fun c7 => ?_) (fun c7 => ?_)
  · skip
    exact (absurd rfl c7)
  · skip
    refine jv_aload_n X dX2_tries_10 0 rfl ?_
    refine jv_iload_n X dX2_tries_11 2 rfl ?_
    refine jv_ask (jv_runV (As := [.int m]) (rest := []) X dX2_tries_12 (c_X2_unreached hO hS hC (fun q hq => Nat.le_trans (hcl q hq) (by decide)) m hWs (Nat.le_refl _)) (lw_V q2331 q2333 qs71 q100 q2334) hd_X2_unreached md_M_o rfl (Nat.le_of_ble_eq_true rfl) (Nat.le_of_ble_eq_true rfl) (Nat.le_of_ble_eq_true rfl) (Nat.le_of_ble_eq_true rfl) rfl (Nat.le_of_ble_eq_true rfl)) ?_
    refine jv_iconst (v := (-1)) X dX2_tries_15 rfl ?_
    refine jv_icmp_eq 20 X dX2_tries_16 (by decide) (fun c16 => ?_) (fun c16 => ?_)
    · skip
      refine jv_iconst (v := nI 0) X dX2_tries_20 rfl ?_
      refine jv_istore (lv' := [(4, .int (nI 0)), (0, .ref o.2.1), (1, .int (nI (S 0))), (2, .int m), (3, .int (nI most))]) X dX2_tries_21 (by decide) rfl ?_
      have lp23_1 : ∀ (d_23 : Nat) (q : Nat) (A1 : Nat → Nat → Int32), q ≤ S 0 → (∀ i, i ≠ 19 → i ≠ 20 → A1 i = A i) → (∀ t, t < q → A1 19 t = nI (if Y.1 = 0 then c t else Y.2.1 t)) → (∀ t, q ≤ t → A1 19 t = A 19 t) → (∀ t, t < q → A1 20 t = nI (Y.2.2 t ||| 2 ^ c t)) → (∀ t, q ≤ t → A1 20 t = A 20 t) → S 0 - q < d_23 → jv_J x G 5 Q_ (md_M G o F A1) 0 0 23 [(0, .ref o.2.1), (1, .int (nI (S 0))), (2, .int m), (3, .int (nI most)), (4, .int (nI q))] [] := by
        intro d_23
        induction d_23 with
        | zero => intro q A1 hq hB h19 g19 h20 g20 hm_23; exact absurd hm_23 (Nat.not_lt_zero _)
        | succ d_23 ih_23 =>
          intro q A1 hq hB h19 g19 h20 g20 hm_23
          refine jv_iload X dX2_tries_23 4 rfl ?_
          refine jv_aload_n X dX2_tries_25 0 rfl ?_
          refine jm_getA X dX2_tries_26 0 (by decide) q2010 rfl ?_
          refine jv_iconst (v := nI 0) X dX2_tries_29 rfl ?_
          refine jm_ld (v := nI (S 0)) X hO dX2_tries_30 0 (by decide) (show 0 < 237 from (by omega)) ((congrFun (hB 0 (by decide) (by decide)) _).trans (hS _ (by omega))) ?_
          refine jn_icmp_ge 90 X dX2_tries_31 (by decide) (by omega) (by omega) (fun c31 => ?_) (fun c31 => ?_)
          · skip
            refine jv_aload_n X dX2_tries_90 0 rfl ?_
            refine jv_dup X dX2_tries_91 rfl ?_
            refine jm_getF (v := nI Y.1) X dX2_tries_92 21 (by decide) q2031 rfl hY.1 ?_
            refine jv_iconst (v := nI 1) X dX2_tries_95 rfl ?_
            refine jv_iadd (w := nI (Y.1 + 1)) X dX2_tries_96 (nI_add _ _) ?_
            refine jm_putF (ty := .int) (v := nI (Y.1 + 1)) X hO dX2_tries_97 21 (by decide) q2031 rfl rfl rfl rfl rfl ?_
            exact jv_vret X dX2_tries_100 hQ (Nat.zero_le _) (Nat.zero_le _) ⟨_, _, rfl, (by rw [triF, if_pos c16]; exact ⟨pk_us, fun _ q hq => (h19 q (by omega)).trans (by unfold lfY; split <;> rfl), fun q hq => h20 q (by omega)⟩), ⟨fun k a => by simp [upd, a], fun k a b e => hB k b e, fun q _ => by rw [hB 18 (by decide) (by decide)]⟩⟩
          · skip
            have hcq := hcl q (by omega)
            refine jv_aload_n X dX2_tries_34 0 rfl ?_
            refine jm_getA X dX2_tries_35 19 (by decide) q2029 rfl ?_
            refine jv_iload X dX2_tries_38 4 rfl ?_
            refine jv_aload_n X dX2_tries_40 0 rfl ?_
            refine jm_getF (v := nI Y.1) X dX2_tries_41 21 (by decide) q2031 rfl hY.1 ?_
            have j64_2 : ∀ wb : Nat, wb = (if Y.1 = 0 then (c q) else (Y.2.1 q)) → jv_J x G 5 Q_ (md_M G o F A1) 0 0 64 [(0, .ref o.2.1), (1, .int (nI (S 0))), (2, .int m), (3, .int (nI most)), (4, .int (nI q))] [.int (nI wb), .int (nI q), .ref (o.2.2 19)] := by
              intro wb e_wb
              refine jm_st (v := nI wb) X hO dX2_tries_64 19 (by decide) (show q < 6 from (by omega)) ?_
              refine jv_aload_n X dX2_tries_65 0 rfl ?_
              refine jm_getA X dX2_tries_66 20 (by decide) q2030 rfl ?_
              refine jv_iload X dX2_tries_69 4 rfl ?_
              refine jv_dup2 X dX2_tries_71 rfl rfl ?_
              refine jm_ld (v := nI (Y.2.2 q)) X hO dX2_tries_72 20 (by decide) (show q < 6 from (by omega)) ((mdA_n (by decide)).trans ((g20 _ (Nat.le_refl _)).trans (hY.2.2 _ (by omega)))) ?_
              refine jv_iconst (v := nI 1) X dX2_tries_73 rfl ?_
              refine jv_aload_n X dX2_tries_74 0 rfl ?_
              refine jm_getA X dX2_tries_75 18 (by decide) q2028 rfl ?_
              refine jv_iload X dX2_tries_78 4 rfl ?_
              refine jm_ld (v := nI (c q)) X hO dX2_tries_80 18 (by decide) (show q < 6 from (by omega)) ((mdA_n (by decide)).trans ((congrFun (hB 18 (by decide) (by decide)) _).trans (hC _ (by omega)))) ?_
              refine jv_ishl (w := nI (2 ^ (c q))) X dX2_tries_81 (ni_shl1 (by omega)) ?_
              refine jv_ior (w := nI ((Y.2.2 q) ||| (2 ^ (c q)))) X dX2_tries_82 (ni_or _ _) ?_
              refine jm_st (v := nI ((Y.2.2 q) ||| (2 ^ (c q)))) X hO dX2_tries_83 20 (by decide) (show q < 6 from (by omega)) ?_
              refine jv_iinc (v := nI (q + 1)) (lv' := [(4, .int (nI (q + 1))), (0, .ref o.2.1), (1, .int (nI (S 0))), (2, .int m), (3, .int (nI most))]) X dX2_tries_84 4 rfl (nI_1 _) (by decide) rfl ?_
              refine jv_goto 23 X dX2_tries_87 (by decide) ?_
              refine jv_lv (lv' := [(0, .ref o.2.1), (1, .int (nI (S 0))), (2, .int m), (3, .int (nI most)), (4, .int (nI (q + 1)))]) [1, 2, 3, 4, 0] rfl ?_
              exact ih_23 (q + 1) (mdA (mdA A1 19 q (nI wb)) 20 q (nI ((Y.2.2 q) ||| (2 ^ (c q))))) (by omega) (fun i a b => by rw [mdA_i b, mdA_i a]; exact hB i a b) (fun t ht => by rw [mdA_i (by decide)]; by_cases e : t = q; (rw [e, mdA_s, e_wb]); (rw [mdA_o e]; exact h19 t (by omega))) (fun t ht => by rw [mdA_i (by decide), mdA_o (by omega)]; exact g19 t (by omega)) (fun t ht => by by_cases e : t = q; (rw [e, mdA_s]); (rw [mdA_o e, mdA_i (by decide)]; exact h20 t (by omega))) (fun t ht => by rw [mdA_o (by omega), mdA_i (by decide)]; exact g20 t (by omega)) (by omega)
            refine jn_if_ne 57 X dX2_tries_44 (by decide) (by omega) (fun c44 => ?_) (fun c44 => ?_)
            · skip
              refine jv_aload_n X dX2_tries_57 0 rfl ?_
              refine jm_getA X dX2_tries_58 19 (by decide) q2029 rfl ?_
              refine jv_iload X dX2_tries_61 4 rfl ?_
              refine jm_ld (v := nI (Y.2.1 q)) X hO dX2_tries_63 19 (by decide) (show q < 6 from (by omega)) ((g19 _ (Nat.le_refl _)).trans (hY.2.1 c44 _ (by omega))) ?_
              exact j64_2 _ (if_neg c44).symm
            · skip
              refine jv_aload_n X dX2_tries_47 0 rfl ?_
              refine jm_getA X dX2_tries_48 18 (by decide) q2028 rfl ?_
              refine jv_iload X dX2_tries_51 4 rfl ?_
              refine jm_ld (v := nI (c q)) X hO dX2_tries_53 18 (by decide) (show q < 6 from (by omega)) ((congrFun (hB 18 (by decide) (by decide)) _).trans (hC _ (by omega))) ?_
              refine jv_goto 64 X dX2_tries_54 (by decide) ?_
              exact j64_2 _ (if_pos c44).symm
      refine jv_lv (lv' := [(0, .ref o.2.1), (1, .int (nI (S 0))), (2, .int m), (3, .int (nI most)), (4, .int (nI 0))]) [1, 2, 3, 4, 0] rfl ?_
      exact lp23_1 (S 0 + 1) 0 A (Nat.zero_le _) (fun _ _ _ => rfl) (fun t ht => absurd ht (Nat.not_lt_zero _)) (fun _ _ => rfl) (fun t ht => absurd ht (Nat.not_lt_zero _)) (fun _ _ => rfl) (by omega)
    · skip
      exact jv_vret X dX2_tries_19 hQ (Nat.zero_le _) (Nat.zero_le _) ⟨_, _, rfl, (by rw [triF, if_neg c16]; exact hY), ktY.rf⟩
set_option maxHeartbeats 4000000 in
theorem c_X2_tries1 {l : Launch} {G : jv_G} {o : md_O} {S : Nat → Nat} (hO : md_K G o) (hWs : wfS S) (hL : wfL S) (m : Int32) (most : Nat) (hmost : most < 2 ^ 31) (p d : Nat) (hpd : S 0 = p + d + 1) (ih : ∀ (F : Nat → Int32) (A : Nat → Nat → Int32) (c : Nat → Nat) (Y : t_Y), (∀ j, j < 237 → A 0 j = nI (S j)) → (∀ q, q < p + 1 → A 18 q = nI (c q)) → (∀ q, q < p + 1 → c q ≤ 5) → isY S F A Y → Y.1 + 6 ^ d ≤ 46656 → jv_Ct G l yX2_tries cX2_tries 5 none (5 + d) 0 0 (121 + 24 * d) [.ref o.2.1, .int (nI (p + 1)), .int m, .int (nI most)] (md_M G o F A) (jv_qv G (mY G o S (p + 1) F A (triF S m most d c Y)))) {F : Nat → Int32} {A : Nat → Nat → Int32} {c : Nat → Nat} {Y : t_Y} (hS : ∀ j, j < 237 → A 0 j = nI (S j)) (hC : ∀ q, q < p → A 18 q = nI (c q)) (hcl : ∀ q, q < p → c q ≤ 5) (hY : isY S F A Y) (hY6 : Y.1 + 6 ^ (d + 1) ≤ 46656) : jv_Ct G l yX2_tries cX2_tries 5 none (5 + (d + 1)) 0 0 (121 + 24 * (d + 1)) [.ref o.2.1, .int (nI p), .int m, .int (nI most)] (md_M G o F A) (jv_qv G (mY G o S p F A (triF S m most (d + 1) c Y))) := by
  refine jv_Ct.of (lv := [(0, .ref o.2.1), (1, .int (nI p)), (2, .int m), (3, .int (nI most))]) (by decide) (Nat.le_of_ble_eq_true rfl) rfl ?_
  intro x Q_ hl_ hQ X
  subst hl_
  have hW := hWs.1
  have hS0 := hW.p
  have hp6 : p < 6 := by omega
  have hnv := hW.nv hp6
  have h6p : 0 < 6 ^ d := Nat.pow_pos (by decide)
  have h6d : Y.1 + 6 * 6 ^ d ≤ 46656 := by rw [Nat.pow_succ] at hY6; omega
  refine jv_iload_n X dX2_tries_0 1 rfl ?_
  refine jv_aload_n X dX2_tries_1 0 rfl ?_
  refine jm_getA X dX2_tries_2 0 (by decide) q2010 rfl ?_
  refine jv_iconst (v := nI 0) X dX2_tries_5 rfl ?_
  refine jm_ld (v := nI (S 0)) X hO dX2_tries_6 0 (by decide) (show 0 < 237 from (by omega)) (hS _ (by omega)) ?_
  refine jn_icmp_ne 101 X dX2_tries_7 (by decide) (by omega) (by omega) (fun c7 => ?_) (fun c7 => ?_)
  · skip
    refine jv_iconst (v := nI 0) X dX2_tries_101 rfl ?_
    refine jv_istore (lv' := [(4, .int (nI 0)), (0, .ref o.2.1), (1, .int (nI p)), (2, .int m), (3, .int (nI most))]) X dX2_tries_102 (by decide) rfl ?_
    have lp104_1 : ∀ (d_104 : Nat) (k : Nat) (F1 : Nat → Int32) (A1 : Nat → Nat → Int32) (Y1 : t_Y), k ≤ v_of S p 0 + 1 → (∀ j, j < 237 → A1 0 j = nI (S j)) → isY S F1 A1 Y1 → ktY p F A F1 A1 → triL (fun k Y => if fit_ S m p (up2 c p (rk S p k)) = true then triF S m most d (up2 c p (rk S p k)) Y else Y) most (v_of S p 0 + 1 - k) k Y1 = triF S m most (d + 1) c Y → Y1.1 ≤ Y.1 + k * 6 ^ d → v_of S p 0 + 1 - k < d_104 → jv_J x G 5 Q_ (md_M G o F1 A1) 0 0 104 [(0, .ref o.2.1), (1, .int (nI p)), (2, .int m), (3, .int (nI most)), (4, .int (nI k))] [] := by
      intro d_104
      induction d_104 with
      | zero => intro k F1 A1 Y1 hk hS1 hY1 hK1 hf hb hm_104; exact absurd hm_104 (Nat.not_lt_zero _)
      | succ d_104 ih_104 =>
        intro k F1 A1 Y1 hk hS1 hY1 hK1 hf hb hm_104
        have hC1 : ∀ q, q < p → A1 18 q = nI (c q) := fun q hq => (hK1.2.2 q hq).trans (hC q hq)
        have hk6 : k * 6 ^ d ≤ 6 * 6 ^ d := Nat.mul_le_mul_right _ (by omega)
        refine jv_iload X dX2_tries_104 4 rfl ?_
        refine jv_aload_n X dX2_tries_106 0 rfl ?_
        refine jv_iload_n X dX2_tries_107 1 rfl ?_
        refine jv_iconst (v := nI 0) X dX2_tries_108 rfl ?_
        refine jv_ask (jv_runV (As := [.int (nI p), .int (nI 0)]) (rest := [.int (nI k)]) X dX2_tries_109 (c_X2_of hO hS1 p 0 (by omega) (by omega)) (lw_V q2115 q2117 qs42 q100 q2118) hd_X2_of md_M_o rfl (by omega) (by omega) (Nat.le_of_ble_eq_true rfl) (Nat.le_of_ble_eq_true rfl) rfl (Nat.le_of_ble_eq_true rfl)) ?_
        refine jn_icmp_gt 160 X dX2_tries_112 (by decide) (by omega) (by omega) (fun c112 => ?_) (fun c112 => ?_)
        · skip
          exact jv_vret X dX2_tries_160 hQ (Nat.zero_le _) (Nat.zero_le _) ⟨_, _, rfl, (by rw [← hf, show v_of S p 0 + 1 - k = 0 by omega]; exact hY1), hK1⟩
        · skip
          refine jv_aload_n X dX2_tries_115 0 rfl ?_
          refine jm_getF (v := nI Y1.1) X dX2_tries_116 21 (by decide) q2031 rfl hY1.1 ?_
          refine jv_iload_n X dX2_tries_119 3 rfl ?_
          refine jn_icmp_ge 160 X dX2_tries_120 (by decide) (by omega) (by omega) (fun c120 => ?_) (fun c120 => ?_)
          · skip
            exact jv_vret X dX2_tries_160 hQ (Nat.zero_le _) (Nat.zero_le _) ⟨_, _, rfl, (by rw [← hf, triL_s (show 0 < v_of S p 0 + 1 - k by omega), if_neg (by omega)]; exact hY1), hK1⟩
          · skip
            have hk5 : (k + 1) * 6 ^ d ≤ 6 * 6 ^ d := Nat.mul_le_mul_right _ (by omega)
            have hk7 : (k + 1) * 6 ^ d = k * 6 ^ d + 6 ^ d := by rw [Nat.add_mul, Nat.one_mul]
            refine jv_aload_n X dX2_tries_123 0 rfl ?_
            refine jm_getA X dX2_tries_124 18 (by decide) q2028 rfl ?_
            refine jv_iload_n X dX2_tries_127 1 rfl ?_
            refine jv_aload_n X dX2_tries_128 0 rfl ?_
            refine jv_iload_n X dX2_tries_129 1 rfl ?_
            refine jv_iload X dX2_tries_130 4 rfl ?_
            refine jv_ask (jv_runV (As := [.int (nI p), .int (nI k)]) (rest := [.int (nI p), .ref (o.2.2 18)]) X dX2_tries_132 (c_X2_byRank hO hS1 p k (by omega) (by omega) hW) (lw_V q2335 q2337 qs72 q100 q2338) hd_X2_byRank md_M_o rfl (by omega) (by omega) (Nat.le_of_ble_eq_true rfl) (Nat.le_of_ble_eq_true rfl) rfl (Nat.le_of_ble_eq_true rfl)) ?_
            refine jm_st (v := nI (rk S p k)) X hO dX2_tries_135 18 (by decide) (show p < 6 from (by omega)) ?_
            have hC2 : ∀ q, q < p + 1 → mdA A1 18 p (nI (rk S p k)) 18 q = nI (up2 c p (rk S p k) q) := up2_C hC1
            have hcl2 : ∀ q, q < p + 1 → up2 c p (rk S p k) q ≤ 5 := fun q hq => by unfold up2; split; (exact rk_le hW hp6); (exact hcl q (by omega))
            have hS2 : ∀ j, j < 237 → mdA A1 18 p (nI (rk S p k)) 0 j = nI (S j) := fun j hj => by rw [mdA_i (by decide)]; exact hS1 j hj
            have hY2 : isY S F1 (mdA A1 18 p (nI (rk S p k))) Y1 := hY1.st
            have hK2 : ktY p F A F1 (mdA A1 18 p (nI (rk S p k))) := hK1.tr ktY_st
            obtain ⟨A2, hA2⟩ : ∃ A2, A2 = mdA A1 18 p (nI (rk S p k)) := ⟨_, rfl⟩
            rw [← hA2] at hC2 hS2 hY2 hK2 ⊢
            refine jv_aload_n X dX2_tries_136 0 rfl ?_
            refine jv_iload_n X dX2_tries_137 1 rfl ?_
            refine jv_iload_n X dX2_tries_138 2 rfl ?_
            refine jv_ask (jv_runV (As := [.int (nI p), .int m]) (rest := []) X dX2_tries_139 (c_X2_fits hO hS2 hC2 (fun q hq => Nat.le_trans (hcl2 q hq) (by decide)) p m (by omega) (by omega) hWs hL) (lw_V q2339 q2341 qs73 q100 q2342) hd_X2_fits md_M_o rfl (by omega) (by omega) (Nat.le_of_ble_eq_true rfl) (Nat.le_of_ble_eq_true rfl) rfl (Nat.le_of_ble_eq_true rfl)) ?_
            refine jb_if_eq 154 X dX2_tries_142 (by decide) (fun c142 => ?_) (fun c142 => ?_)
            · skip
              refine jv_iinc (v := nI (k + 1)) (lv' := [(4, .int (nI (k + 1))), (0, .ref o.2.1), (1, .int (nI p)), (2, .int m), (3, .int (nI most))]) X dX2_tries_154 4 rfl (nI_1 _) (by decide) rfl ?_
              refine jv_goto 104 X dX2_tries_157 (by decide) ?_
              refine jv_lv (lv' := [(0, .ref o.2.1), (1, .int (nI p)), (2, .int m), (3, .int (nI most)), (4, .int (nI (k + 1)))]) [1, 2, 3, 4, 0] rfl ?_
              exact ih_104 (k + 1) F1 A2 Y1 (by omega) hS2 hY2 hK2 (by rw [← hf, triL_s (show 0 < v_of S p 0 + 1 - k by omega), if_pos (by omega), show v_of S p 0 + 1 - k - 1 = v_of S p 0 + 1 - (k + 1) by omega, if_neg (Bool.eq_false_iff.mp c142)]) (by rw [Nat.add_mul]; omega) (by omega)
            · skip
              refine jv_aload_n X dX2_tries_145 0 rfl ?_
              refine jv_iload_n X dX2_tries_146 1 rfl ?_
              refine jv_iconst (v := nI 1) X dX2_tries_147 rfl ?_
              refine jv_iadd (w := nI (p + 1)) X dX2_tries_148 (nI_add _ _) ?_
              refine jv_iload_n X dX2_tries_149 2 rfl ?_
              refine jv_iload_n X dX2_tries_150 3 rfl ?_
              refine jv_callv (jv_runV (As := [.int (nI (p + 1)), .int m, .int (nI most)]) (rest := []) X dX2_tries_151 (ih F1 A2 (up2 c p (rk S p k)) Y1 hS2 hC2 hcl2 hY2 (by omega)) (lw_V q2327 q2329 qs70 q100 q2330) hd_X2_tries md_M_o rfl (by omega) (by omega) (Nat.le_of_ble_eq_true rfl) (Nat.le_of_ble_eq_true rfl) rfl (Nat.le_of_ble_eq_true rfl)) (fun M_ h_ => ?_)
              obtain ⟨F3, A3, rfl, hY3, hK3⟩ := h_
              have hS3 := hK3.S hS2
              have hb3 := triF_n hW (m := m) (most := most) d (up2 c p (rk S p k)) Y1 (by omega)
              refine jv_iinc (v := nI (k + 1)) (lv' := [(4, .int (nI (k + 1))), (0, .ref o.2.1), (1, .int (nI p)), (2, .int m), (3, .int (nI most))]) X dX2_tries_154 4 rfl (nI_1 _) (by decide) rfl ?_
              refine jv_goto 104 X dX2_tries_157 (by decide) ?_
              refine jv_lv (lv' := [(0, .ref o.2.1), (1, .int (nI p)), (2, .int m), (3, .int (nI most)), (4, .int (nI (k + 1)))]) [1, 2, 3, 4, 0] rfl ?_
              exact ih_104 (k + 1) F3 A3 (triF S m most d (up2 c p (rk S p k)) Y1) (by omega) hS3 hY3 (hK2.tr (hK3.less (by omega))) (by rw [← hf, triL_s (show 0 < v_of S p 0 + 1 - k by omega), if_pos (by omega), show v_of S p 0 + 1 - k - 1 = v_of S p 0 + 1 - (k + 1) by omega, if_pos c142]) (by rw [Nat.add_mul]; omega) (by omega)
    refine jv_lv (lv' := [(0, .ref o.2.1), (1, .int (nI p)), (2, .int m), (3, .int (nI most)), (4, .int (nI 0))]) [1, 2, 3, 4, 0] rfl ?_
    exact lp104_1 (v_of S p 0 + 1 + 1) 0 F A Y (Nat.zero_le _) hS hY ktY.rf (triF_s hpd).symm (by omega) (by omega)
  · skip
    exact (absurd c7 (by omega))
theorem c_X2_tries {l : Launch} {G : jv_G} {o : md_O} {S : Nat → Nat} (hO : md_K G o) (hWs : wfS S) (hL : wfL S) (m : Int32) (most : Nat) (hmost : most < 2 ^ 31) : ∀ (d p : Nat), S 0 = p + d → ∀ (F : Nat → Int32) (A : Nat → Nat → Int32) (c : Nat → Nat) (Y : t_Y), (∀ j, j < 237 → A 0 j = nI (S j)) → (∀ q, q < p → A 18 q = nI (c q)) → (∀ q, q < p → c q ≤ 5) → isY S F A Y → Y.1 + 6 ^ d ≤ 46656 → jv_Ct G l yX2_tries cX2_tries 5 none (5 + d) 0 0 (121 + 24 * d) [.ref o.2.1, .int (nI p), .int m, .int (nI most)] (md_M G o F A) (jv_qv G (mY G o S p F A (triF S m most d c Y))) := by
  intro d
  induction d with
  | zero =>
    intro p hp F A c Y hS hC hcl hY h6
    have e : p = S 0 := by omega
    subst e
    exact c_X2_tries0 hO hWs hL m most hmost hS hC hcl hY h6
  | succ d ih =>
    intro p hp F A c Y hS hC hcl hY h6
    exact c_X2_tries1 hO hWs hL m most hmost p d (by omega) (fun F A c Y a b c' d' e => ih (p + 1) (by omega) F A c Y a b c' d' e) hS hC hcl hY h6
