/-! reference, fourteenth -/
set_option maxRecDepth 100000
theorem hd_X2_read : jv_dd yX2_read 0 := by unfold jv_dd; decide +kernel
set_option maxHeartbeats 4000000 in
theorem c_X2_read {l : Launch} {G : jv_G} {o : md_O} {F : Nat → Int32} {A : Nat → Nat → Int32} {S : Nat → Nat} (hO : md_K G o) (hS : ∀ j, j < 237 → A 0 j = nI (S j)) {z : t_Z} (hz : isZ F A z) (hk8 : zk z ≤ 8) (hA : wfA S) (hl6 : zl z ≤ 60) (hzS : zS z = S)   : jv_Ct G l yX2_read cX2_read 5 (some .int) 5 0 0 107 [.ref o.2.1] (md_M G o F A) (jv_qi G (fun r M' => ∃ F' A', M' = md_M G o F' A' ∧ r = (m_read z S).1 ∧ isZ F' A' (m_read z S).2)) := by
  refine jv_Ct.of (lv := [(0, .ref o.2.1)]) (by decide) (Nat.le_of_ble_eq_true rfl) rfl ?_
  intro x Q_ hl_ hQ X
  subst hl_
  refine jv_aload_n X dX2_read_0 0 rfl ?_
  refine jv_callv (jv_runV (As := []) (rest := []) X dX2_read_1 (c_X2_remembers hO hS) (lw_V q2096 q2098 qs39 q100 q2099) hd_X2_remembers md_M_o rfl (Nat.le_of_ble_eq_true rfl) (Nat.le_of_ble_eq_true rfl) (Nat.le_of_ble_eq_true rfl) (Nat.le_of_ble_eq_true rfl) rfl (Nat.le_of_ble_eq_true rfl)) (fun M_ h_ => ?_)
  obtain ⟨A1, rfl, h1⟩ := h_
  have hS1 : ∀ j, j < 237 → A1 0 j = nI (S j) := fun j hj => by rw [h1.1 0 (by decide)]; exact hS j hj
  refine jv_aload_n X dX2_read_4 0 rfl ?_
  refine jv_calli (jv_runV (As := []) (rest := []) X dX2_read_5 (c_X2_readsText hO (fun j hj => (congrFun (h1.1 6 (by decide)) j).trans (hz.2.2.2.2.2.2.1 j hj)) hl6 hz.2.2.2.2.2.1) (lw_V q2383 q2385 qs77 q100 q2386) hd_X2_readsText md_M_o rfl (Nat.le_of_ble_eq_true rfl) (Nat.le_of_ble_eq_true rfl) (Nat.le_of_ble_eq_true rfl) (Nat.le_of_ble_eq_true rfl) rfl (Nat.le_of_ble_eq_true rfl)) (fun r2 M_ h_ => ?_)
  obtain ⟨F2, A2, rfl, h2⟩ := h_
  obtain ⟨rfl, h7_, h22_, h26_, hm16, hre_, hF_, hB_, hG_⟩ := h2
  have hz2 : isZ F2 A2 (zrd z) := hz.rd0 h7_ (fun k e => hF_ k (by omega) (by omega) (by omega) (by omega) (by omega)) (fun k e => (hB_ k (by omega)).trans (h1.1 k (by omega)))
  have hS2 : ∀ j, j < 237 → A2 0 j = nI (S j) := fun j hj => by rw [hz2.1 j hj]; exact congrArg nI (congrFun hzS j)
  have hR2 : ∀ j, j < 237 → A2 2 j = nI (S j) := fun j hj => by rw [hB_ 2 (by decide)]; exact h1.2 j hj
  obtain ⟨m, hm⟩ : ∃ m, m = (rd (zx z) (zl z)).2 := ⟨_, rfl⟩
  rw [← hm] at h26_ hm16 hG_
  refine jb_if_ne 22 X dX2_read_8 (by decide) (fun c8 => ?_) (fun c8 => ?_)
  · skip
    refine jv_iconst (v := nI 0) X dX2_read_22 rfl ?_
    refine jv_istore_n (lv' := [(1, .int (nI 0)), (0, .ref o.2.1)]) X dX2_read_23 rfl (by decide) rfl ?_
    have lp24_3 : ∀ (d_24 : Nat) (i : Nat) (S1 : Nat → Nat) (A1 : Nat → Nat → Int32), i ≤ m → (∀ j, j < 237 → A1 0 j = nI (S1 j)) → wfA S1 → doN (zx z) (zl z) (m - i) i S1 = doN (zx z) (zl z) m 0 S → (∀ k, k ≠ 0 → A1 k = A2 k) → m - i < d_24 → jv_J x G 5 Q_ (md_M G o F2 A1) 0 0 24 [(0, .ref o.2.1), (1, .int (nI i))] [] := by
      intro d_24
      induction d_24 with
      | zero => intro i S1 A1 hi hS1 hA1 hd1 hC hm_24; exact absurd hm_24 (Nat.not_lt_zero _)
      | succ d_24 ih_24 =>
        intro i S1 A1 hi hS1 hA1 hd1 hC hm_24
        refine jv_iload_n X dX2_read_24 1 rfl ?_
        refine jv_aload_n X dX2_read_25 0 rfl ?_
        refine jm_getF (v := nI m) X dX2_read_26 26 (by decide) q2036 rfl h26_ ?_
        refine jn_icmp_ge 167 X dX2_read_29 (by decide) (by omega) (by omega) (fun c29 => ?_) (fun c29 => ?_)
        · skip
          refine jv_aload_n X dX2_read_167 0 rfl ?_
          refine jv_aload_n X dX2_read_168 0 rfl ?_
          refine jm_getF (v := nI m) X dX2_read_169 26 (by decide) q2036 rfl h26_ ?_
          refine jv_calli (jv_runV (As := [.int (nI m)]) (rest := []) X dX2_read_172 (c_X2_changed hO (nI m) (zk z) hk8 hz2.kp (zH z) (fun i hi j hj => by rw [hC 3 (by decide)]; exact hz2.hi i hi j hj) S (fun j hj => by rw [hC 2 (by decide)]; exact hR2 j hj)) (lw_V q2100 q2102 qs40 q100 q2103) hd_X2_changed md_M_o rfl (Nat.le_of_ble_eq_true rfl) (Nat.le_of_ble_eq_true rfl) (Nat.le_of_ble_eq_true rfl) (Nat.le_of_ble_eq_true rfl) rfl (Nat.le_of_ble_eq_true rfl)) (fun r4 M_ h_ => ?_)
          obtain ⟨F4, A4, rfl, h4⟩ := h_
          exact jv_iret (v := r4) X dX2_read_175 rfl hQ (Nat.le_of_ble_eq_true rfl) (Nat.le_of_ble_eq_true rfl) ⟨_, _, rfl, (by rw [m_read, if_pos c8, ← hm, ← hd1, show m - i = 0 by omega, doN, if_pos (show i = m by omega)]; exact ⟨h4.1, isZ.put hz2 (fun i hi _ => hC i hi) hS1 h4.2⟩)⟩
        · skip
          have hg_ : itG (zx z) (zl z) (A1 25) i := by rw [hC 25 (by decide)]; exact hG_ c8 i (by omega)
          have hkl_ := itK_lt (T := zx z) (e := zl z) (R := (true, itS (zx z) (zl z) i))
          refine jv_aload_n X dX2_read_32 0 rfl ?_
          refine jm_getA X dX2_read_33 25 (by decide) q2035 rfl ?_
          refine jv_iconst (v := nI 5) X dX2_read_36 rfl ?_
          refine jv_iload_n X dX2_read_37 1 rfl ?_
          refine jv_imul (w := nI (5 * i)) X dX2_read_38 (pk_mul _ _) ?_
          refine jm_ld (v := nI (itK (zx z) (zl z) (true, itS (zx z) (zl z) i))) X hO dX2_read_39 25 (by decide) (show (5 * i) < 155 from (by omega)) hg_.1 ?_
          refine jv_istore_n (lv' := [(2, .int (nI (itK (zx z) (zl z) (true, itS (zx z) (zl z) i)))), (0, .ref o.2.1), (1, .int (nI i))]) X dX2_read_40 rfl (by decide) rfl ?_
          refine jv_iload_n X dX2_read_41 0 rfl ?_
          refine jn_if_ne 72 X dX2_read_42 (by decide) (by omega) (fun c42 => ?_) (fun c42 => ?_)
          · skip
            refine jv_aload_n X dX2_read_72 1 rfl ?_
            refine jv_iload_n X dX2_read_73 0 rfl ?_
            refine jv_aload_n X dX2_read_74 1 rfl ?_
            refine jm_getA X dX2_read_75 25 (by decide) q2035 rfl ?_
            refine jv_iconst (v := nI 5) X dX2_read_78 rfl ?_
            refine jv_iload_n X dX2_read_79 2 rfl ?_
            refine jv_imul (w := nI (5 * i)) X dX2_read_80 (pk_mul _ _) ?_
            refine jv_iconst (v := nI 1) X dX2_read_81 rfl ?_
            refine jv_iadd (w := nI ((5 * i) + 1)) X dX2_read_82 (nI_add _ _) ?_
            refine jm_ld (v := mvl (zx z) (zl z) 97 (true, itS (zx z) (zl z) i)) X hO dX2_read_83 25 (by decide) (show ((5 * i) + 1) < 155 from (by omega)) (hg_.2.1 c42).1 ?_
            refine jv_aload_n X dX2_read_84 1 rfl ?_
            refine jm_getA X dX2_read_85 25 (by decide) q2035 rfl ?_
            refine jv_iconst (v := nI 5) X dX2_read_88 rfl ?_
            refine jv_iload_n X dX2_read_89 2 rfl ?_
            refine jv_imul (w := nI (5 * i)) X dX2_read_90 (pk_mul _ _) ?_
            refine jv_iconst (v := nI 2) X dX2_read_91 rfl ?_
            refine jv_iadd (w := nI ((5 * i) + 2)) X dX2_read_92 (nI_add _ _) ?_
            refine jm_ld (v := mvl (zx z) (zl z) 48 (mstR (zx z) (zl z) 97 102 (true, itS (zx z) (zl z) i))) X hO dX2_read_93 25 (by decide) (show ((5 * i) + 2) < 155 from (by omega)) (hg_.2.1 c42).2 ?_
            refine jv_aload_n X dX2_read_94 1 rfl ?_
            refine jm_getA X dX2_read_95 25 (by decide) q2035 rfl ?_
            refine jv_iconst (v := nI 5) X dX2_read_98 rfl ?_
            refine jv_iload_n X dX2_read_99 2 rfl ?_
            refine jv_imul (w := nI (5 * i)) X dX2_read_100 (pk_mul _ _) ?_
            refine jv_iconst (v := nI 3) X dX2_read_101 rfl ?_
            refine jv_iadd (w := nI ((5 * i) + 3)) X dX2_read_102 (nI_add _ _) ?_
            refine jm_ld (v := (tgt (zx z) (zl z) (it3 (zx z) (zl z) (true, itS (zx z) (zl z) i))).2.1) X hO dX2_read_103 25 (by decide) (show ((5 * i) + 3) < 155 from (by omega)) hg_.2.2.1 ?_
            refine jv_aload_n X dX2_read_104 1 rfl ?_
            refine jm_getA X dX2_read_105 25 (by decide) q2035 rfl ?_
            refine jv_iconst (v := nI 5) X dX2_read_108 rfl ?_
            refine jv_iload_n X dX2_read_109 2 rfl ?_
            refine jv_imul (w := nI (5 * i)) X dX2_read_110 (pk_mul _ _) ?_
            refine jv_iconst (v := nI 4) X dX2_read_111 rfl ?_
            refine jv_iadd (w := nI ((5 * i) + 4)) X dX2_read_112 (nI_add _ _) ?_
            refine jm_ld (v := (tgt (zx z) (zl z) (it3 (zx z) (zl z) (true, itS (zx z) (zl z) i))).2.2) X hO dX2_read_113 25 (by decide) (show ((5 * i) + 4) < 155 from (by omega)) hg_.2.2.2 ?_
            refine jv_calli (jv_runV (As := [.int (nI (itK (zx z) (zl z) (true, itS (zx z) (zl z) i))), .int (mvl (zx z) (zl z) 97 (true, itS (zx z) (zl z) i)), .int (mvl (zx z) (zl z) 48 (mstR (zx z) (zl z) 97 102 (true, itS (zx z) (zl z) i))), .int ((tgt (zx z) (zl z) (it3 (zx z) (zl z) (true, itS (zx z) (zl z) i))).2.1), .int ((tgt (zx z) (zl z) (it3 (zx z) (zl z) (true, itS (zx z) (zl z) i))).2.2)]) (rest := []) X dX2_read_114 (c_X2_holdsOther hO hS1 (itK (zx z) (zl z) (true, itS (zx z) (zl z) i)) (mvl (zx z) (zl z) 97 (true, itS (zx z) (zl z) i)) (mvl (zx z) (zl z) 48 (mstR (zx z) (zl z) 97 102 (true, itS (zx z) (zl z) i))) ((tgt (zx z) (zl z) (it3 (zx z) (zl z) (true, itS (zx z) (zl z) i))).2.1) ((tgt (zx z) (zl z) (it3 (zx z) (zl z) (true, itS (zx z) (zl z) i))).2.2) hA1.1.1) (lw_V q2185 q2187 qs52 q100 q2188) hd_X2_holdsOther md_M_o rfl (Nat.le_of_ble_eq_true rfl) (Nat.le_of_ble_eq_true rfl) (Nat.le_of_ble_eq_true rfl) (Nat.le_of_ble_eq_true rfl) rfl (Nat.le_of_ble_eq_true rfl)) (fun r5 M_ h_ => ?_)
            obtain ⟨A5, rfl, h5⟩ := h_
            have hd_ : doR (zx z) (zl z) S1 i = holdsR S1 (itK (zx z) (zl z) (true, itS (zx z) (zl z) i)) (mvl (zx z) (zl z) 97 (true, itS (zx z) (zl z) i)) (mvl (zx z) (zl z) 48 (mstR (zx z) (zl z) 97 102 (true, itS (zx z) (zl z) i))) ((tgt (zx z) (zl z) (it3 (zx z) (zl z) (true, itS (zx z) (zl z) i))).2.1) ((tgt (zx z) (zl z) (it3 (zx z) (zl z) (true, itS (zx z) (zl z) i))).2.2) := by rw [doR, if_neg c42]
            rw [← hd_] at h5
            refine jv_istore_n (lv' := [(3, .int r5), (2, .int (nI (itK (zx z) (zl z) (true, itS (zx z) (zl z) i)))), (0, .ref o.2.1), (1, .int (nI i))]) X dX2_read_117 rfl (by decide) rfl ?_
            refine jv_iload_n X dX2_read_118 0 rfl ?_
            refine jv_if_ge 161 X dX2_read_119 (by decide) (fun c119 => ?_) (fun c119 => ?_)
            · skip
              refine jv_iinc (v := nI (i + 1)) (lv' := [(1, .int (nI (i + 1))), (3, .int r5), (2, .int (nI (itK (zx z) (zl z) (true, itS (zx z) (zl z) i)))), (0, .ref o.2.1)]) X dX2_read_161 3 rfl (nI_1 _) (by decide) rfl ?_
              refine jv_goto 24 X dX2_read_164 (by decide) ?_
              refine jv_lv (lv' := [(0, .ref o.2.1), (1, .int (nI (i + 1)))]) [3, 0] rfl ?_
              have hc_ : 0 ≤ (doR (zx z) (zl z) S1 i).1 := by rw [← h5.1]; exact c119
              exact ih_24 (i + 1) ((doR (zx z) (zl z) S1 i).2) A5 (by omega) (h5.2.2) (hA1.do1 _ _ _) (by rw [← hd1, doN_s (by omega) hc_, show m - i - 1 = m - (i + 1) by omega]) (fun k hk => (h5.2.1 k hk).trans (hC k hk)) (by omega)
            · skip
              refine jv_aload_n X dX2_read_122 2 rfl ?_
              refine jv_iload_n X dX2_read_123 3 rfl ?_
              refine jm_putF (ty := .int) (v := nI i) X hO dX2_read_124 9 (by decide) q2019 rfl rfl rfl rfl rfl ?_
              have hx_ : doN (zx z) (zl z) (m - i) i S1 = (i, S1) := doN_x (by omega) (by rw [← h5.1]; exact c119)
              refine jv_iconst (v := nI 0) X dX2_read_127 rfl ?_
              refine jv_istore (lv' := [(4, .int (nI 0)), (3, .int r5), (2, .int (nI (itK (zx z) (zl z) (true, itS (zx z) (zl z) i)))), (0, .ref o.2.1), (1, .int (nI i))]) X dX2_read_128 (by decide) rfl ?_
              have lp130_6 : ∀ (d_130 : Nat) (q : Nat) (A4 : Nat → Nat → Int32), q ≤ 237 → (∀ k, k ≠ 0 → A4 k = A2 k) → (∀ j, j < q → A4 0 j = nI (S j)) → 237 - q < d_130 → jv_J x G 5 Q_ (md_M G o (upd F2 9 (nI i)) A4) 0 0 130 [(0, .ref o.2.1), (4, .int (nI q))] [] := by
                intro d_130
                induction d_130 with
                | zero => intro q A4 hq hB4 hA4 hm_130; exact absurd hm_130 (Nat.not_lt_zero _)
                | succ d_130 ih_130 =>
                  intro q A4 hq hB4 hA4 hm_130
                  refine jv_iload X dX2_read_130 1 rfl ?_
                  refine jv_sipush (v := nI 237) X dX2_read_132 rfl ?_
                  refine jn_icmp_ge 158 X dX2_read_135 (by decide) (by omega) (by decide) (fun c135 => ?_) (fun c135 => ?_)
                  · skip
                    refine jv_bipush (v := (-3)) X dX2_read_158 rfl ?_
                    exact jv_iret (v := (-3)) X dX2_read_160 rfl hQ (Nat.le_of_ble_eq_true rfl) (Nat.le_of_ble_eq_true rfl) ⟨_, _, rfl, (by rw [m_read, if_pos c8, ← hm, ← hd1, hx_, if_neg (show ¬ i = m by omega)]; exact ⟨rfl, hz2.it _ (fun k e => hB4 k (by omega)) (fun j hj => (hA4 j (by omega)).trans (congrArg nI (congrFun hzS j).symm))⟩)⟩
                  · skip
                    refine jv_aload_n X dX2_read_138 0 rfl ?_
                    refine jm_getA X dX2_read_139 0 (by decide) q2010 rfl ?_
                    refine jv_iload X dX2_read_142 1 rfl ?_
                    refine jv_aload_n X dX2_read_144 0 rfl ?_
                    refine jm_getA X dX2_read_145 2 (by decide) q2012 rfl ?_
                    refine jv_iload X dX2_read_148 1 rfl ?_
                    refine jm_ld (v := nI (S q)) X hO dX2_read_150 2 (by decide) (show q < 237 from (by omega)) ((congrFun (hB4 2 (by decide)) _).trans (hR2 _ (by omega))) ?_
                    refine jm_st (v := nI (S q)) X hO dX2_read_151 0 (by decide) (show q < 237 from (by omega)) ?_
                    refine jv_iinc (v := nI (q + 1)) (lv' := [(4, .int (nI (q + 1))), (0, .ref o.2.1)]) X dX2_read_152 1 rfl (nI_1 _) (by decide) rfl ?_
                    refine jv_goto 130 X dX2_read_155 (by decide) ?_
                    refine jv_lv (lv' := [(0, .ref o.2.1), (4, .int (nI (q + 1)))]) [1, 0] rfl ?_
                    exact ih_130 (q + 1) (mdA A4 0 q (nI (S q))) (by omega) (fun i hi => by rw [mdA_i hi]; exact hB4 i hi) (fun j hj => by by_cases e : j = q; (rw [e, mdA_s]); (rw [mdA_o e]; exact hA4 j (by omega))) (by omega)
              refine jv_lv (lv' := [(0, .ref o.2.1), (4, .int (nI 0))]) [3, 0] rfl ?_
              exact lp130_6 (237 + 1) 0 A5 (Nat.zero_le _) (fun k hk => (h5.2.1 k hk).trans (hC k hk)) (fun j hj => absurd hj (Nat.not_lt_zero _)) (by omega)
          · skip
            refine jv_aload_n X dX2_read_45 1 rfl ?_
            refine jv_aload_n X dX2_read_46 1 rfl ?_
            refine jm_getA X dX2_read_47 25 (by decide) q2035 rfl ?_
            refine jv_iconst (v := nI 5) X dX2_read_50 rfl ?_
            refine jv_iload_n X dX2_read_51 2 rfl ?_
            refine jv_imul (w := nI (5 * i)) X dX2_read_52 (pk_mul _ _) ?_
            refine jv_iconst (v := nI 3) X dX2_read_53 rfl ?_
            refine jv_iadd (w := nI ((5 * i) + 3)) X dX2_read_54 (nI_add _ _) ?_
            refine jm_ld (v := (tgt (zx z) (zl z) (it3 (zx z) (zl z) (true, itS (zx z) (zl z) i))).2.1) X hO dX2_read_55 25 (by decide) (show ((5 * i) + 3) < 155 from (by omega)) hg_.2.2.1 ?_
            refine jv_aload_n X dX2_read_56 1 rfl ?_
            refine jm_getA X dX2_read_57 25 (by decide) q2035 rfl ?_
            refine jv_iconst (v := nI 5) X dX2_read_60 rfl ?_
            refine jv_iload_n X dX2_read_61 2 rfl ?_
            refine jv_imul (w := nI (5 * i)) X dX2_read_62 (pk_mul _ _) ?_
            refine jv_iconst (v := nI 4) X dX2_read_63 rfl ?_
            refine jv_iadd (w := nI ((5 * i) + 4)) X dX2_read_64 (nI_add _ _) ?_
            refine jm_ld (v := (tgt (zx z) (zl z) (it3 (zx z) (zl z) (true, itS (zx z) (zl z) i))).2.2) X hO dX2_read_65 25 (by decide) (show ((5 * i) + 4) < 155 from (by omega)) hg_.2.2.2 ?_
            refine jv_calli (jv_runV (As := [.int ((tgt (zx z) (zl z) (it3 (zx z) (zl z) (true, itS (zx z) (zl z) i))).2.1), .int ((tgt (zx z) (zl z) (it3 (zx z) (zl z) (true, itS (zx z) (zl z) i))).2.2)]) (rest := []) X dX2_read_66 (c_X2_wants hO hS1 ((tgt (zx z) (zl z) (it3 (zx z) (zl z) (true, itS (zx z) (zl z) i))).2.1) ((tgt (zx z) (zl z) (it3 (zx z) (zl z) (true, itS (zx z) (zl z) i))).2.2) hA1.1.1) (lw_V q2169 q2171 qs49 q100 q2172) hd_X2_wants md_M_o rfl (Nat.le_of_ble_eq_true rfl) (Nat.le_of_ble_eq_true rfl) (Nat.le_of_ble_eq_true rfl) (Nat.le_of_ble_eq_true rfl) rfl (Nat.le_of_ble_eq_true rfl)) (fun r7 M_ h_ => ?_)
            obtain ⟨A7, rfl, h7⟩ := h_
            have hd_ : doR (zx z) (zl z) S1 i = wantsR S1 ((tgt (zx z) (zl z) (it3 (zx z) (zl z) (true, itS (zx z) (zl z) i))).2.1) ((tgt (zx z) (zl z) (it3 (zx z) (zl z) (true, itS (zx z) (zl z) i))).2.2) := by rw [doR, if_pos c42]
            rw [← hd_] at h7
            refine jv_goto 117 X dX2_read_69 (by decide) ?_
            refine jv_istore_n (lv' := [(3, .int r7), (2, .int (nI (itK (zx z) (zl z) (true, itS (zx z) (zl z) i)))), (0, .ref o.2.1), (1, .int (nI i))]) X dX2_read_117 rfl (by decide) rfl ?_
            refine jv_iload_n X dX2_read_118 0 rfl ?_
            refine jv_if_ge 161 X dX2_read_119 (by decide) (fun c119 => ?_) (fun c119 => ?_)
            · skip
              refine jv_iinc (v := nI (i + 1)) (lv' := [(1, .int (nI (i + 1))), (3, .int r7), (2, .int (nI (itK (zx z) (zl z) (true, itS (zx z) (zl z) i)))), (0, .ref o.2.1)]) X dX2_read_161 3 rfl (nI_1 _) (by decide) rfl ?_
              refine jv_goto 24 X dX2_read_164 (by decide) ?_
              refine jv_lv (lv' := [(0, .ref o.2.1), (1, .int (nI (i + 1)))]) [3, 0] rfl ?_
              have hc_ : 0 ≤ (doR (zx z) (zl z) S1 i).1 := by rw [← h7.1]; exact c119
              exact ih_24 (i + 1) ((doR (zx z) (zl z) S1 i).2) A7 (by omega) (h7.2.2) (hA1.do1 _ _ _) (by rw [← hd1, doN_s (by omega) hc_, show m - i - 1 = m - (i + 1) by omega]) (fun k hk => (h7.2.1 k hk).trans (hC k hk)) (by omega)
            · skip
              refine jv_aload_n X dX2_read_122 2 rfl ?_
              refine jv_iload_n X dX2_read_123 3 rfl ?_
              refine jm_putF (ty := .int) (v := nI i) X hO dX2_read_124 9 (by decide) q2019 rfl rfl rfl rfl rfl ?_
              have hx_ : doN (zx z) (zl z) (m - i) i S1 = (i, S1) := doN_x (by omega) (by rw [← h7.1]; exact c119)
              refine jv_iconst (v := nI 0) X dX2_read_127 rfl ?_
              refine jv_istore (lv' := [(4, .int (nI 0)), (3, .int r7), (2, .int (nI (itK (zx z) (zl z) (true, itS (zx z) (zl z) i)))), (0, .ref o.2.1), (1, .int (nI i))]) X dX2_read_128 (by decide) rfl ?_
              have lp130_8 : ∀ (d_130 : Nat) (q : Nat) (A4 : Nat → Nat → Int32), q ≤ 237 → (∀ k, k ≠ 0 → A4 k = A2 k) → (∀ j, j < q → A4 0 j = nI (S j)) → 237 - q < d_130 → jv_J x G 5 Q_ (md_M G o (upd F2 9 (nI i)) A4) 0 0 130 [(0, .ref o.2.1), (4, .int (nI q))] [] := by
                intro d_130
                induction d_130 with
                | zero => intro q A4 hq hB4 hA4 hm_130; exact absurd hm_130 (Nat.not_lt_zero _)
                | succ d_130 ih_130 =>
                  intro q A4 hq hB4 hA4 hm_130
                  refine jv_iload X dX2_read_130 1 rfl ?_
                  refine jv_sipush (v := nI 237) X dX2_read_132 rfl ?_
                  refine jn_icmp_ge 158 X dX2_read_135 (by decide) (by omega) (by decide) (fun c135 => ?_) (fun c135 => ?_)
                  · skip
                    refine jv_bipush (v := (-3)) X dX2_read_158 rfl ?_
                    exact jv_iret (v := (-3)) X dX2_read_160 rfl hQ (Nat.le_of_ble_eq_true rfl) (Nat.le_of_ble_eq_true rfl) ⟨_, _, rfl, (by rw [m_read, if_pos c8, ← hm, ← hd1, hx_, if_neg (show ¬ i = m by omega)]; exact ⟨rfl, hz2.it _ (fun k e => hB4 k (by omega)) (fun j hj => (hA4 j (by omega)).trans (congrArg nI (congrFun hzS j).symm))⟩)⟩
                  · skip
                    refine jv_aload_n X dX2_read_138 0 rfl ?_
                    refine jm_getA X dX2_read_139 0 (by decide) q2010 rfl ?_
                    refine jv_iload X dX2_read_142 1 rfl ?_
                    refine jv_aload_n X dX2_read_144 0 rfl ?_
                    refine jm_getA X dX2_read_145 2 (by decide) q2012 rfl ?_
                    refine jv_iload X dX2_read_148 1 rfl ?_
                    refine jm_ld (v := nI (S q)) X hO dX2_read_150 2 (by decide) (show q < 237 from (by omega)) ((congrFun (hB4 2 (by decide)) _).trans (hR2 _ (by omega))) ?_
                    refine jm_st (v := nI (S q)) X hO dX2_read_151 0 (by decide) (show q < 237 from (by omega)) ?_
                    refine jv_iinc (v := nI (q + 1)) (lv' := [(4, .int (nI (q + 1))), (0, .ref o.2.1)]) X dX2_read_152 1 rfl (nI_1 _) (by decide) rfl ?_
                    refine jv_goto 130 X dX2_read_155 (by decide) ?_
                    refine jv_lv (lv' := [(0, .ref o.2.1), (4, .int (nI (q + 1)))]) [1, 0] rfl ?_
                    exact ih_130 (q + 1) (mdA A4 0 q (nI (S q))) (by omega) (fun i hi => by rw [mdA_i hi]; exact hB4 i hi) (fun j hj => by by_cases e : j = q; (rw [e, mdA_s]); (rw [mdA_o e]; exact hA4 j (by omega))) (by omega)
              refine jv_lv (lv' := [(0, .ref o.2.1), (4, .int (nI 0))]) [3, 0] rfl ?_
              exact lp130_8 (237 + 1) 0 A7 (Nat.zero_le _) (fun k hk => (h7.2.1 k hk).trans (hC k hk)) (fun j hj => absurd hj (Nat.not_lt_zero _)) (by omega)
    refine jv_lv (lv' := [(0, .ref o.2.1), (1, .int (nI 0))]) [1, 0] rfl ?_
    exact lp24_3 (m + 1) 0 S A2 (Nat.zero_le _) hS2 hA rfl (fun _ _ => rfl) (by omega)
  · skip
    refine jv_aload_n X dX2_read_11 0 rfl ?_
    refine jv_aload_n X dX2_read_12 0 rfl ?_
    refine jm_getF (v := nI ((rd (zx z) (zl z)).1.2)) X dX2_read_13 22 (by decide) q2032 rfl h22_ ?_
    refine jm_putF (ty := .int) (v := nI ((rd (zx z) (zl z)).1.2)) X hO dX2_read_16 8 (by decide) q2018 rfl rfl rfl rfl rfl ?_
    refine jv_bipush (v := (-2)) X dX2_read_19 rfl ?_
    exact jv_iret (v := (-2)) X dX2_read_21 rfl hQ (Nat.le_of_ble_eq_true rfl) (Nat.le_of_ble_eq_true rfl) ⟨_, _, rfl, (by rw [m_read, if_neg (Bool.eq_false_iff.mp c8)]; exact ⟨rfl, hz2.er _⟩)⟩
theorem hd_X2_fault : jv_dd yX2_fault 1 := by unfold jv_dd; decide +kernel
set_option maxHeartbeats 4000000 in
theorem c_X2_fault {l : Launch} {G : jv_G} {o : md_O} {F : Nat → Int32} {A : Nat → Nat → Int32} {S : Nat → Nat} (hO : md_K G o) (hS : ∀ j, j < 237 → A 0 j = nI (S j)) (b : Bool) {z : t_Z} (hz : isZ F A z) : jv_Ct G l yX2_fault cX2_fault 3 (some .int) 0 0 0 0 [.ref o.2.1, .int (bI b)] (md_M G o F A) (jv_qi G (jv_pi (m_fault z b) (md_M G o F A))) := by
  refine jv_Ct.of (lv := [(0, .ref o.2.1), (1, .int (bI b))]) (by decide) (Nat.le_of_ble_eq_true rfl) rfl ?_
  intro x Q_ hl_ hQ X
  subst hl_
  refine jv_iload_n X dX2_fault_0 1 rfl ?_
  have j15_1 : ∀ fv : Int32, fv = (if b = true then (zi z) else (ze z)) → jv_J x G 3 Q_ (md_M G o F A) 0 0 15 [(0, .ref o.2.1), (1, .int (bI b))] [.int fv] := by
    intro fv e_fv
    refine jv_istore_n (lv' := [(2, .int fv), (0, .ref o.2.1), (1, .int (bI b))]) X dX2_fault_15 rfl (by decide) rfl ?_
    refine jv_iload_n X dX2_fault_16 0 rfl ?_
    refine jv_iconst (v := (-1)) X dX2_fault_17 rfl ?_
    refine jv_icmp_ne 26 X dX2_fault_18 (by decide) (fun c18 => ?_) (fun c18 => ?_)
    · skip
      refine jv_iload_n X dX2_fault_26 0 rfl ?_
      exact jv_iret (v := fv) X dX2_fault_27 rfl hQ (Nat.le_of_ble_eq_true rfl) (Nat.le_of_ble_eq_true rfl) ⟨(by rw [m_fault, ← e_fv, if_neg c18]), rfl⟩
    · skip
      refine jv_bipush (v := (-3)) X dX2_fault_21 rfl ?_
      refine jv_goto 27 X dX2_fault_23 (by decide) ?_
      exact jv_iret (v := (-3)) X dX2_fault_27 rfl hQ (Nat.le_of_ble_eq_true rfl) (Nat.le_of_ble_eq_true rfl) ⟨(by rw [m_fault, ← e_fv, if_pos c18]), rfl⟩
  refine jb_if_eq 11 X dX2_fault_1 (by decide) (fun c1 => ?_) (fun c1 => ?_)
  · skip
    refine jv_aload_n X dX2_fault_11 0 rfl ?_
    refine jm_getF (v := ze z) X dX2_fault_12 8 (by decide) q2018 rfl hz.2.2.2.2.2.2.2.1 ?_
    exact j15_1 _ (if_neg (Bool.eq_false_iff.mp c1)).symm
  · skip
    refine jv_aload_n X dX2_fault_4 0 rfl ?_
    refine jm_getF (v := zi z) X dX2_fault_5 9 (by decide) q2019 rfl hz.2.2.2.2.2.2.2.2.1 ?_
    refine jv_goto 15 X dX2_fault_8 (by decide) ?_
    exact j15_1 _ (if_pos c1).symm
