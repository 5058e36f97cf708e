/-! reference, eighth -/
set_option maxRecDepth 100000
theorem rgp_lt {S : Nat → Nat} (hW : wfS S) {r : Nat} (hr : r < S 1) : rgp S r < S 0 := by
  unfold rgp
  split
  · exact (hW.2.1 r hr).1
  · exact (hW.2.1 r hr).2
theorem hd_X2_holds : jv_dd yX2_holds 1 := by unfold jv_dd; decide +kernel
set_option maxHeartbeats 4000000 in
theorem c_X2_holds {l : Launch} {G : jv_G} {o : md_O} {F : Nat → Int32} {A : Nat → Nat → Int32} {S : Nat → Nat} (hO : md_K G o) (hS : ∀ j, j < 237 → A 0 j = nI (S j)) {c : Nat → Nat} {n : Nat} (hC : ∀ q, q < n → A 18 q = nI (c q)) (hcl : ∀ q, q < n → c q ≤ 9) (r : Nat) (hr : r < S 1) (hWs : wfS S) (hn3 : v_ofRule S r 0 = 3 → ∀ q, q < S 0 → ¬ lsd S r q = 0 → q < n) (hn : ¬ v_ofRule S r 0 = 3 → v_ofRule S r 1 < n ∧ rgp S r < n) : jv_Ct G l yX2_holds cX2_holds 5 (some .boolean) 3 0 0 73 [.ref o.2.1, .int (nI r)] (md_M G o F A) (jv_qi G (jv_pi (bI (hld S r c)) (md_M G o F A))) := by
  refine jv_Ct.of (lv := [(0, .ref o.2.1), (1, .int (nI r))]) (by decide) (Nat.le_of_ble_eq_true rfl) rfl ?_
  intro x Q_ hl_ hQ X
  subst hl_
  have hW := hWs.1
  have hS0 := hW.p
  have hrr := hW.r
  have hr30 := Nat.lt_of_lt_of_le hr hW.r
  have h0 := hW.rk hr30
  have h1 := hW.r1 hr30
  have h2 := hW.r2 hr30
  have h3 := hW.r3 hr30
  have h4 := hW.r4 hr30
  refine jv_aload_n X dX2_holds_0 0 rfl ?_
  refine jv_iload_n X dX2_holds_1 1 rfl ?_
  refine jv_iconst (v := nI 0) X dX2_holds_2 rfl ?_
  refine jv_ask (jv_runV (As := [.int (nI r), .int (nI 0)]) (rest := []) X dX2_holds_3 (c_X2_ofRule hO hS r 0 (by omega) (by omega)) (lw_V q2142 q2144 qs46 q100 q2145) hd_X2_ofRule md_M_o rfl (Nat.le_of_ble_eq_true rfl) (Nat.le_of_ble_eq_true rfl) (Nat.le_of_ble_eq_true rfl) (Nat.le_of_ble_eq_true rfl) rfl (Nat.le_of_ble_eq_true rfl)) ?_
  refine jv_istore_n (lv' := [(2, .int (nI (v_ofRule S r 0))), (0, .ref o.2.1), (1, .int (nI r))]) X dX2_holds_6 rfl (by decide) rfl ?_
  refine jv_iload_n X dX2_holds_7 0 rfl ?_
  refine jv_iconst (v := nI 3) X dX2_holds_8 rfl ?_
  refine jn_icmp_ne 59 X dX2_holds_9 (by decide) (by omega) (by decide) (fun c9 => ?_) (fun c9 => ?_)
  · skip
    refine jv_iload_n X dX2_holds_59 0 rfl ?_
    have j78_1 : ∀ wp : Nat, wp = (if (v_ofRule S r 0) = 0 then (v_ofRule S r 1) else (v_ofRule S r 3)) → jv_J x G 5 Q_ (md_M G o F A) 0 0 78 [(2, .int (nI (v_ofRule S r 0))), (0, .ref o.2.1), (1, .int (nI r))] [.int (nI wp)] := by
      intro wp e_wp
      replace e_wp : wp = rgp S r := e_wp.trans rfl
      subst e_wp
      refine jv_istore_n (lv' := [(3, .int (nI (rgp S r))), (2, .int (nI (v_ofRule S r 0))), (0, .ref o.2.1), (1, .int (nI r))]) X dX2_holds_78 rfl (by decide) rfl ?_
      have hnp := hn c9
      have hcr := hcl _ hnp.2
      have hco := hcl _ hnp.1
      have hrg : rgp S r < 6 := by unfold rgp; split <;> omega
      have hcv := cov_lt hW hrg (v_ofRule S r 4)
      refine jv_aload_n X dX2_holds_79 2 rfl ?_
      refine jv_iload_n X dX2_holds_80 0 rfl ?_
      refine jv_aload_n X dX2_holds_81 2 rfl ?_
      refine jv_iload_n X dX2_holds_82 3 rfl ?_
      refine jv_iconst (v := nI 4) X dX2_holds_83 rfl ?_
      refine jv_ask (jv_runV (As := [.int (nI r), .int (nI 4)]) (rest := [.int (nI (rgp S r)), .ref o.2.1]) X dX2_holds_84 (c_X2_ofRule hO hS r 4 (by omega) (by omega)) (lw_V q2142 q2144 qs46 q100 q2145) hd_X2_ofRule md_M_o rfl (Nat.le_of_ble_eq_true rfl) (Nat.le_of_ble_eq_true rfl) (Nat.le_of_ble_eq_true rfl) (Nat.le_of_ble_eq_true rfl) rfl (Nat.le_of_ble_eq_true rfl)) ?_
      refine jv_ask (jv_runV (As := [.int (nI (rgp S r)), .int (nI (v_ofRule S r 4))]) (rest := []) X dX2_holds_87 (c_X2_coversOf hO hS (rgp S r) (v_ofRule S r 4) hrg (by omega) hW) (lw_V q2153 q2155 qs47 q100 q2156) hd_X2_coversOf md_M_o rfl (Nat.le_of_ble_eq_true rfl) (Nat.le_of_ble_eq_true rfl) (Nat.le_of_ble_eq_true rfl) (Nat.le_of_ble_eq_true rfl) rfl (Nat.le_of_ble_eq_true rfl)) ?_
      refine jv_aload_n X dX2_holds_90 2 rfl ?_
      refine jm_getA X dX2_holds_91 18 (by decide) q2028 rfl ?_
      refine jv_iload_n X dX2_holds_94 0 rfl ?_
      refine jm_ld (v := nI (c (rgp S r))) X hO dX2_holds_95 18 (by decide) (show (rgp S r) < 6 from (by omega)) (hC _ hnp.2) ?_
      refine jv_ishr (w := nI ((cov S (rgp S r) (v_ofRule S r 4)) / 2 ^ (c (rgp S r)))) X dX2_holds_96 (ni_shr (by omega) (by omega)) ?_
      refine jv_iconst (v := nI 1) X dX2_holds_97 rfl ?_
      refine jv_iand (w := nI (((cov S (rgp S r) (v_ofRule S r 4)) / 2 ^ (c (rgp S r))) &&& 1)) X dX2_holds_98 (ni_and _ _) ?_
      refine jv_iconst (v := nI 1) X dX2_holds_99 rfl ?_
      have j108_2 : ∀ wbit : Bool, wbit = (if (((cov S (rgp S r) (v_ofRule S r 4)) / 2 ^ (c (rgp S r))) &&& 1) = 1 then true else false) → jv_J x G 5 Q_ (md_M G o F A) 0 0 108 [(3, .int (nI (rgp S r))), (2, .int (nI (v_ofRule S r 0))), (0, .ref o.2.1), (1, .int (nI r))] [.int (bI wbit)] := by
        intro wbit e_wbit
        replace e_wbit : wbit = hbit S r c := e_wbit.trans rfl
        subst e_wbit
        refine jv_istore (lv' := [(4, .int (bI (hbit S r c))), (3, .int (nI (rgp S r))), (2, .int (nI (v_ofRule S r 0))), (0, .ref o.2.1), (1, .int (nI r))]) X dX2_holds_108 (by decide) rfl ?_
        refine jv_iload_n X dX2_holds_110 2 rfl ?_
        have j159_3 : ∀ wr : Bool, wr = (if (v_ofRule S r 0) = 0 then hbit S r c else (if (c (v_ofRule S r 1)) = (v_ofRule S r 2) then (if (hbit S r c) = (if (v_ofRule S r 0) = 1 then true else false) then true else false) else true)) → jv_J x G 5 Q_ (md_M G o F A) 0 0 159 [(4, .int (bI (hbit S r c))), (3, .int (nI (rgp S r))), (2, .int (nI (v_ofRule S r 0))), (0, .ref o.2.1), (1, .int (nI r))] [.int (bI wr)] := by
          intro wr e_wr
          exact jv_iret (v := bI wr) X dX2_holds_159 (bI_nar _) hQ (Nat.le_of_ble_eq_true rfl) (Nat.le_of_ble_eq_true rfl) ⟨(by rw [hld, if_neg c9]; exact congrArg bI e_wr), rfl⟩
        refine jn_if_ne 119 X dX2_holds_111 (by decide) (by omega) (fun c111 => ?_) (fun c111 => ?_)
        · skip
          refine jv_aload_n X dX2_holds_119 3 rfl ?_
          refine jm_getA X dX2_holds_120 18 (by decide) q2028 rfl ?_
          refine jv_aload_n X dX2_holds_123 3 rfl ?_
          refine jv_iload_n X dX2_holds_124 4 rfl ?_
          refine jv_iconst (v := nI 1) X dX2_holds_125 rfl ?_
          refine jv_ask (jv_runV (As := [.int (nI r), .int (nI 1)]) (rest := [.ref (o.2.2 18)]) X dX2_holds_126 (c_X2_ofRule hO hS r 1 (by omega) (by omega)) (lw_V q2142 q2144 qs46 q100 q2145) hd_X2_ofRule md_M_o rfl (Nat.le_of_ble_eq_true rfl) (Nat.le_of_ble_eq_true rfl) (Nat.le_of_ble_eq_true rfl) (Nat.le_of_ble_eq_true rfl) rfl (Nat.le_of_ble_eq_true rfl)) ?_
          refine jm_ld (v := nI (c (v_ofRule S r 1))) X hO dX2_holds_129 18 (by decide) (show (v_ofRule S r 1) < 6 from (by omega)) (hC _ hnp.1) ?_
          refine jv_aload_n X dX2_holds_130 3 rfl ?_
          refine jv_iload_n X dX2_holds_131 4 rfl ?_
          refine jv_iconst (v := nI 2) X dX2_holds_132 rfl ?_
          refine jv_ask (jv_runV (As := [.int (nI r), .int (nI 2)]) (rest := [.int (nI (c (v_ofRule S r 1)))]) X dX2_holds_133 (c_X2_ofRule hO hS r 2 (by omega) (by omega)) (lw_V q2142 q2144 qs46 q100 q2145) hd_X2_ofRule md_M_o rfl (Nat.le_of_ble_eq_true rfl) (Nat.le_of_ble_eq_true rfl) (Nat.le_of_ble_eq_true rfl) (Nat.le_of_ble_eq_true rfl) rfl (Nat.le_of_ble_eq_true rfl)) ?_
          refine jn_icmp_ne 154 X dX2_holds_136 (by decide) (by omega) (by omega) (fun c136 => ?_) (fun c136 => ?_)
          · skip
            refine jv_iconst (v := nI 1) X dX2_holds_154 rfl ?_
            refine jv_goto 159 X dX2_holds_155 (by decide) ?_
            exact j159_3 _ ((if_neg c111).trans (if_neg c136)).symm
          · skip
            refine jv_iload X dX2_holds_139 0 rfl ?_
            refine jv_iload_n X dX2_holds_141 2 rfl ?_
            refine jv_iconst (v := nI 1) X dX2_holds_142 rfl ?_
            have j151_4 : ∀ w2 : Bool, w2 = (if (v_ofRule S r 0) = 1 then true else false) → jv_J x G 5 Q_ (md_M G o F A) 0 0 151 [(4, .int (bI (hbit S r c))), (3, .int (nI (rgp S r))), (2, .int (nI (v_ofRule S r 0))), (0, .ref o.2.1), (1, .int (nI r))] [.int (bI w2), .int (bI (hbit S r c))] := by
              intro w2 e_w2
              subst e_w2
              refine jbb_icmp_ne 158 X dX2_holds_151 (by decide) (fun c151 => ?_) (fun c151 => ?_)
              · skip
                refine jv_iconst (v := nI 0) X dX2_holds_158 rfl ?_
                exact j159_3 _ (((if_neg c111).trans (if_pos c136)).trans (if_neg c151)).symm
              · skip
                refine jv_iconst (v := nI 1) X dX2_holds_154 rfl ?_
                refine jv_goto 159 X dX2_holds_155 (by decide) ?_
                exact j159_3 _ (((if_neg c111).trans (if_pos c136)).trans (if_pos c151)).symm
            refine jn_icmp_ne 150 X dX2_holds_143 (by decide) (by omega) (by decide) (fun c143 => ?_) (fun c143 => ?_)
            · skip
              refine jv_iconst (v := nI 0) X dX2_holds_150 rfl ?_
              exact j151_4 _ (if_neg c143).symm
            · skip
              refine jv_iconst (v := nI 1) X dX2_holds_146 rfl ?_
              refine jv_goto 151 X dX2_holds_147 (by decide) ?_
              exact j151_4 _ (if_pos c143).symm
        · skip
          refine jv_iload X dX2_holds_114 0 rfl ?_
          refine jv_goto 159 X dX2_holds_116 (by decide) ?_
          exact j159_3 _ (if_pos c111).symm
      refine jn_icmp_ne 107 X dX2_holds_100 (by decide) (Nat.lt_of_le_of_lt Nat.and_le_right (by decide)) (by decide) (fun c100 => ?_) (fun c100 => ?_)
      · skip
        refine jv_iconst (v := nI 0) X dX2_holds_107 rfl ?_
        exact j108_2 _ (if_neg c100).symm
      · skip
        refine jv_iconst (v := nI 1) X dX2_holds_103 rfl ?_
        refine jv_goto 108 X dX2_holds_104 (by decide) ?_
        exact j108_2 _ (if_pos c100).symm
    refine jn_if_ne 72 X dX2_holds_60 (by decide) (by omega) (fun c60 => ?_) (fun c60 => ?_)
    · skip
      refine jv_aload_n X dX2_holds_72 1 rfl ?_
      refine jv_iload_n X dX2_holds_73 2 rfl ?_
      refine jv_iconst (v := nI 3) X dX2_holds_74 rfl ?_
      refine jv_ask (jv_runV (As := [.int (nI r), .int (nI 3)]) (rest := []) X dX2_holds_75 (c_X2_ofRule hO hS r 3 (by omega) (by omega)) (lw_V q2142 q2144 qs46 q100 q2145) hd_X2_ofRule md_M_o rfl (Nat.le_of_ble_eq_true rfl) (Nat.le_of_ble_eq_true rfl) (Nat.le_of_ble_eq_true rfl) (Nat.le_of_ble_eq_true rfl) rfl (Nat.le_of_ble_eq_true rfl)) ?_
      exact j78_1 _ (if_neg c60).symm
    · skip
      refine jv_aload_n X dX2_holds_63 1 rfl ?_
      refine jv_iload_n X dX2_holds_64 2 rfl ?_
      refine jv_iconst (v := nI 1) X dX2_holds_65 rfl ?_
      refine jv_ask (jv_runV (As := [.int (nI r), .int (nI 1)]) (rest := []) X dX2_holds_66 (c_X2_ofRule hO hS r 1 (by omega) (by omega)) (lw_V q2142 q2144 qs46 q100 q2145) hd_X2_ofRule md_M_o rfl (Nat.le_of_ble_eq_true rfl) (Nat.le_of_ble_eq_true rfl) (Nat.le_of_ble_eq_true rfl) (Nat.le_of_ble_eq_true rfl) rfl (Nat.le_of_ble_eq_true rfl)) ?_
      refine jv_goto 78 X dX2_holds_69 (by decide) ?_
      exact j78_1 _ (if_pos c60).symm
  · skip
    refine jv_iconst (v := nI 0) X dX2_holds_12 rfl ?_
    refine jv_istore_n (lv' := [(3, .int (nI 0)), (2, .int (nI (v_ofRule S r 0))), (0, .ref o.2.1), (1, .int (nI r))]) X dX2_holds_13 rfl (by decide) rfl ?_
    have lp14_5 : ∀ (d_14 : Nat) (p : Nat), p ≤ S 0 → hldN S r c (S 0 - p) p = hldN S r c (S 0) 0 → S 0 - p < d_14 → jv_J x G 5 Q_ (md_M G o F A) 0 0 14 [(0, .ref o.2.1), (1, .int (nI r)), (2, .int (nI (v_ofRule S r 0))), (3, .int (nI p))] [] := by
      intro d_14
      induction d_14 with
      | zero => intro p hp hf hm_14; exact absurd hm_14 (Nat.not_lt_zero _)
      | succ d_14 ih_14 =>
        intro p hp hf hm_14
        refine jv_iload_n X dX2_holds_14 3 rfl ?_
        refine jv_aload_n X dX2_holds_15 0 rfl ?_
        refine jm_getA X dX2_holds_16 0 (by decide) q2010 rfl ?_
        refine jv_iconst (v := nI 0) X dX2_holds_19 rfl ?_
        refine jm_ld (v := nI (S 0)) X hO dX2_holds_20 0 (by decide) (show 0 < 237 from (by omega)) (hS _ (by omega)) ?_
        refine jn_icmp_ge 57 X dX2_holds_21 (by decide) (by omega) (by omega) (fun c21 => ?_) (fun c21 => ?_)
        · skip
          refine jv_iconst (v := nI 0) X dX2_holds_57 rfl ?_
          exact jv_iret (v := bI false) X dX2_holds_58 (bI_nar _) hQ (Nat.le_of_ble_eq_true rfl) (Nat.le_of_ble_eq_true rfl) ⟨(by rw [hld, if_pos c9, ← hf, show S 0 - p = 0 by omega]; rfl), rfl⟩
        · skip
          have hls := lsd_lt S r p
          refine jv_aload_n X dX2_holds_24 0 rfl ?_
          refine jv_iload_n X dX2_holds_25 1 rfl ?_
          refine jv_iload_n X dX2_holds_26 3 rfl ?_
          refine jv_ask (jv_runV (As := [.int (nI r), .int (nI p)]) (rest := []) X dX2_holds_27 (c_X2_learnedState hO hS r p (by omega) (by omega) hW) (lw_V q2209 q2211 qs55 q100 q2212) hd_X2_learnedState md_M_o rfl (Nat.le_of_ble_eq_true rfl) (Nat.le_of_ble_eq_true rfl) (Nat.le_of_ble_eq_true rfl) (Nat.le_of_ble_eq_true rfl) rfl (Nat.le_of_ble_eq_true rfl)) ?_
          refine jv_iconst (v := (-1)) X dX2_holds_30 rfl ?_
          refine jq_icmp_eq 51 X dX2_holds_31 (by decide) (by omega) (fun c31 => ?_) (fun c31 => ?_)
          · skip
            refine jv_iinc (v := nI (p + 1)) (lv' := [(3, .int (nI (p + 1))), (0, .ref o.2.1), (1, .int (nI r)), (2, .int (nI (v_ofRule S r 0)))]) X dX2_holds_51 3 rfl (nI_1 _) (by decide) rfl ?_
            refine jv_goto 14 X dX2_holds_54 (by decide) ?_
            refine jv_lv (lv' := [(0, .ref o.2.1), (1, .int (nI r)), (2, .int (nI (v_ofRule S r 0))), (3, .int (nI (p + 1)))]) [1, 2, 3, 0] rfl ?_
            exact ih_14 (p + 1) (by omega) (by rw [← hf, hldN_s (show 0 < S 0 - p by omega), show S 0 - p - 1 = S 0 - (p + 1) by omega, if_pos c31]) (by omega)
          · skip
            have hpn := hn3 c9 p (by omega) c31
            have hcp := hcl p hpn
            refine jv_aload_n X dX2_holds_34 0 rfl ?_
            refine jv_iload_n X dX2_holds_35 1 rfl ?_
            refine jv_iload_n X dX2_holds_36 3 rfl ?_
            refine jv_ask (jv_runV (As := [.int (nI r), .int (nI p)]) (rest := []) X dX2_holds_37 (c_X2_learnedState hO hS r p (by omega) (by omega) hW) (lw_V q2209 q2211 qs55 q100 q2212) hd_X2_learnedState md_M_o rfl (Nat.le_of_ble_eq_true rfl) (Nat.le_of_ble_eq_true rfl) (Nat.le_of_ble_eq_true rfl) (Nat.le_of_ble_eq_true rfl) rfl (Nat.le_of_ble_eq_true rfl)) ?_
            refine jv_to (lv' := [(0, .ref o.2.1), (1, .int (nI r)), (2, .int (nI (v_ofRule S r 0))), (3, .int (nI p))]) (st' := [.int (nI ((lsd S r p) - 1))]) rfl (by rw [pk_sub (show 1 ≤ lsd S r p by omega)]) ?_
            refine jv_aload_n X dX2_holds_40 0 rfl ?_
            refine jm_getA X dX2_holds_41 18 (by decide) q2028 rfl ?_
            refine jv_iload_n X dX2_holds_44 3 rfl ?_
            refine jm_ld (v := nI (c p)) X hO dX2_holds_45 18 (by decide) (show p < 6 from (by omega)) (hC _ (by omega)) ?_
            refine jn_icmp_eq 51 X dX2_holds_46 (by decide) (by omega) (by omega) (fun c46 => ?_) (fun c46 => ?_)
            · skip
              refine jv_iinc (v := nI (p + 1)) (lv' := [(3, .int (nI (p + 1))), (0, .ref o.2.1), (1, .int (nI r)), (2, .int (nI (v_ofRule S r 0)))]) X dX2_holds_51 3 rfl (nI_1 _) (by decide) rfl ?_
              refine jv_goto 14 X dX2_holds_54 (by decide) ?_
              refine jv_lv (lv' := [(0, .ref o.2.1), (1, .int (nI r)), (2, .int (nI (v_ofRule S r 0))), (3, .int (nI (p + 1)))]) [1, 2, 3, 0] rfl ?_
              exact ih_14 (p + 1) (by omega) (by rw [← hf, hldN_s (show 0 < S 0 - p by omega), show S 0 - p - 1 = S 0 - (p + 1) by omega, if_neg c31, if_pos c46]) (by omega)
            · skip
              refine jv_iconst (v := nI 1) X dX2_holds_49 rfl ?_
              exact jv_iret (v := bI true) X dX2_holds_50 (bI_nar _) hQ (Nat.le_of_ble_eq_true rfl) (Nat.le_of_ble_eq_true rfl) ⟨(by rw [hld, if_pos c9, ← hf, hldN_s (show 0 < S 0 - p by omega), if_neg c31, if_neg c46]), rfl⟩
    refine jv_lv (lv' := [(0, .ref o.2.1), (1, .int (nI r)), (2, .int (nI (v_ofRule S r 0))), (3, .int (nI 0))]) [2, 3, 1, 0] rfl ?_
    exact lp14_5 (S 0 + 1) 0 (Nat.zero_le _) rfl (by omega)
theorem hd_X2_lastPack : jv_dd yX2_lastPack 1 := by unfold jv_dd; decide +kernel
set_option maxHeartbeats 4000000 in
theorem c_X2_lastPack {l : Launch} {G : jv_G} {o : md_O} {F : Nat → Int32} {A : Nat → Nat → Int32} {S : Nat → Nat} (hO : md_K G o) (hS : ∀ j, j < 237 → A 0 j = nI (S j)) (r : Nat) (hr : r < S 1) (hWs : wfS S) (hL : wfL S) : jv_Ct G l yX2_lastPack cX2_lastPack 4 (some .int) 2 0 0 46 [.ref o.2.1, .int (nI r)] (md_M G o F A) (jv_qi G (jv_pi (nI (lst_ S r)) (md_M G o F A))) := by
  refine jv_Ct.of (lv := [(0, .ref o.2.1), (1, .int (nI r))]) (by decide) (Nat.le_of_ble_eq_true rfl) rfl ?_
  intro x Q_ hl_ hQ X
  subst hl_
  have hW := hWs.1
  have hS0 := hW.p
  have hrr := hW.r
  have hr30 := Nat.lt_of_lt_of_le hr hW.r
  have h0 := hW.rk hr30
  have h1 := hW.r1 hr30
  have h2 := hW.r2 hr30
  have h3 := hW.r3 hr30
  have h4 := hW.r4 hr30
  refine jv_aload_n X dX2_lastPack_0 0 rfl ?_
  refine jv_iload_n X dX2_lastPack_1 1 rfl ?_
  refine jv_iconst (v := nI 0) X dX2_lastPack_2 rfl ?_
  refine jv_ask (jv_runV (As := [.int (nI r), .int (nI 0)]) (rest := []) X dX2_lastPack_3 (c_X2_ofRule hO hS r 0 (by omega) (by omega)) (lw_V q2142 q2144 qs46 q100 q2145) hd_X2_ofRule md_M_o rfl (Nat.le_of_ble_eq_true rfl) (Nat.le_of_ble_eq_true rfl) (Nat.le_of_ble_eq_true rfl) (Nat.le_of_ble_eq_true rfl) rfl (Nat.le_of_ble_eq_true rfl)) ?_
  refine jv_istore_n (lv' := [(2, .int (nI (v_ofRule S r 0))), (0, .ref o.2.1), (1, .int (nI r))]) X dX2_lastPack_6 rfl (by decide) rfl ?_
  refine jv_iload_n X dX2_lastPack_7 0 rfl ?_
  refine jv_iconst (v := nI 3) X dX2_lastPack_8 rfl ?_
  refine jn_icmp_ne 32 X dX2_lastPack_9 (by decide) (by omega) (by decide) (fun c9 => ?_) (fun c9 => ?_)
  · skip
    refine jv_iload_n X dX2_lastPack_32 0 rfl ?_
    have j66_1 : ∀ wl : Nat, wl = (if (v_ofRule S r 0) = 0 then (v_ofRule S r 1) else (if (v_ofRule S r 1) ≤ (v_ofRule S r 3) then (v_ofRule S r 3) else (v_ofRule S r 1))) → jv_J x G 4 Q_ (md_M G o F A) 0 0 66 [(2, .int (nI (v_ofRule S r 0))), (0, .ref o.2.1), (1, .int (nI r))] [.int (nI wl)] := by
      intro wl e_wl
      exact jv_iret (v := nI wl) X dX2_lastPack_66 rfl hQ (Nat.le_of_ble_eq_true rfl) (Nat.le_of_ble_eq_true rfl) ⟨(by rw [lst_, if_neg c9]; exact congrArg nI e_wl), rfl⟩
    refine jn_if_eq 51 X dX2_lastPack_33 (by decide) (by omega) (fun c33 => ?_) (fun c33 => ?_)
    · skip
      refine jv_aload_n X dX2_lastPack_51 1 rfl ?_
      refine jv_iload_n X dX2_lastPack_52 2 rfl ?_
      refine jv_iconst (v := nI 1) X dX2_lastPack_53 rfl ?_
      refine jv_ask (jv_runV (As := [.int (nI r), .int (nI 1)]) (rest := []) X dX2_lastPack_54 (c_X2_ofRule hO hS r 1 (by omega) (by omega)) (lw_V q2142 q2144 qs46 q100 q2145) hd_X2_ofRule md_M_o rfl (Nat.le_of_ble_eq_true rfl) (Nat.le_of_ble_eq_true rfl) (Nat.le_of_ble_eq_true rfl) (Nat.le_of_ble_eq_true rfl) rfl (Nat.le_of_ble_eq_true rfl)) ?_
      refine jv_goto 66 X dX2_lastPack_57 (by decide) ?_
      exact j66_1 _ (if_pos c33).symm
    · skip
      refine jv_aload_n X dX2_lastPack_36 1 rfl ?_
      refine jv_iload_n X dX2_lastPack_37 2 rfl ?_
      refine jv_iconst (v := nI 1) X dX2_lastPack_38 rfl ?_
      refine jv_ask (jv_runV (As := [.int (nI r), .int (nI 1)]) (rest := []) X dX2_lastPack_39 (c_X2_ofRule hO hS r 1 (by omega) (by omega)) (lw_V q2142 q2144 qs46 q100 q2145) hd_X2_ofRule md_M_o rfl (Nat.le_of_ble_eq_true rfl) (Nat.le_of_ble_eq_true rfl) (Nat.le_of_ble_eq_true rfl) (Nat.le_of_ble_eq_true rfl) rfl (Nat.le_of_ble_eq_true rfl)) ?_
      refine jv_aload_n X dX2_lastPack_42 1 rfl ?_
      refine jv_iload_n X dX2_lastPack_43 2 rfl ?_
      refine jv_iconst (v := nI 3) X dX2_lastPack_44 rfl ?_
      refine jv_ask (jv_runV (As := [.int (nI r), .int (nI 3)]) (rest := [.int (nI (v_ofRule S r 1))]) X dX2_lastPack_45 (c_X2_ofRule hO hS r 3 (by omega) (by omega)) (lw_V q2142 q2144 qs46 q100 q2145) hd_X2_ofRule md_M_o rfl (Nat.le_of_ble_eq_true rfl) (Nat.le_of_ble_eq_true rfl) (Nat.le_of_ble_eq_true rfl) (Nat.le_of_ble_eq_true rfl) rfl (Nat.le_of_ble_eq_true rfl)) ?_
      refine jn_icmp_le 60 X dX2_lastPack_48 (by decide) (by omega) (by omega) (fun c48 => ?_) (fun c48 => ?_)
      · skip
        refine jv_aload_n X dX2_lastPack_60 1 rfl ?_
        refine jv_iload_n X dX2_lastPack_61 2 rfl ?_
        refine jv_iconst (v := nI 3) X dX2_lastPack_62 rfl ?_
        refine jv_ask (jv_runV (As := [.int (nI r), .int (nI 3)]) (rest := []) X dX2_lastPack_63 (c_X2_ofRule hO hS r 3 (by omega) (by omega)) (lw_V q2142 q2144 qs46 q100 q2145) hd_X2_ofRule md_M_o rfl (Nat.le_of_ble_eq_true rfl) (Nat.le_of_ble_eq_true rfl) (Nat.le_of_ble_eq_true rfl) (Nat.le_of_ble_eq_true rfl) rfl (Nat.le_of_ble_eq_true rfl)) ?_
        exact j66_1 _ ((if_neg c33).trans (if_pos c48)).symm
      · skip
        refine jv_aload_n X dX2_lastPack_51 1 rfl ?_
        refine jv_iload_n X dX2_lastPack_52 2 rfl ?_
        refine jv_iconst (v := nI 1) X dX2_lastPack_53 rfl ?_
        refine jv_ask (jv_runV (As := [.int (nI r), .int (nI 1)]) (rest := []) X dX2_lastPack_54 (c_X2_ofRule hO hS r 1 (by omega) (by omega)) (lw_V q2142 q2144 qs46 q100 q2145) hd_X2_ofRule md_M_o rfl (Nat.le_of_ble_eq_true rfl) (Nat.le_of_ble_eq_true rfl) (Nat.le_of_ble_eq_true rfl) (Nat.le_of_ble_eq_true rfl) rfl (Nat.le_of_ble_eq_true rfl)) ?_
        refine jv_goto 66 X dX2_lastPack_57 (by decide) ?_
        exact j66_1 _ ((if_neg c33).trans (if_neg (Nat.not_le.mpr c48))).symm
  · skip
    refine jv_iconst (v := nI 5) X dX2_lastPack_12 rfl ?_
    refine jv_istore_n (lv' := [(3, .int (nI 5)), (2, .int (nI (v_ofRule S r 0))), (0, .ref o.2.1), (1, .int (nI r))]) X dX2_lastPack_13 rfl (by decide) rfl ?_
    have lp14_2 : ∀ (d_14 : Nat) (p : Nat), p ≤ 5 → lastN S r p = lastN S r 5 → (∃ q, q ≤ p ∧ ¬ lsd S r q = 0) → p < d_14 → jv_J x G 4 Q_ (md_M G o F A) 0 0 14 [(0, .ref o.2.1), (1, .int (nI r)), (2, .int (nI (v_ofRule S r 0))), (3, .int (nI p))] [] := by
      intro d_14
      induction d_14 with
      | zero => intro p hp hf hx hm_14; exact absurd hm_14 (Nat.not_lt_zero _)
      | succ d_14 ih_14 =>
        intro p hp hf hx hm_14
        refine jv_aload_n X dX2_lastPack_14 0 rfl ?_
        refine jv_iload_n X dX2_lastPack_15 1 rfl ?_
        have hls := lsd_lt S r p
        refine jv_iload_n X dX2_lastPack_16 3 rfl ?_
        refine jv_ask (jv_runV (As := [.int (nI r), .int (nI p)]) (rest := []) X dX2_lastPack_17 (c_X2_learnedState hO hS r p (by omega) (by omega) hW) (lw_V q2209 q2211 qs55 q100 q2212) hd_X2_learnedState md_M_o rfl (Nat.le_of_ble_eq_true rfl) (Nat.le_of_ble_eq_true rfl) (Nat.le_of_ble_eq_true rfl) (Nat.le_of_ble_eq_true rfl) rfl (Nat.le_of_ble_eq_true rfl)) ?_
        refine jv_iconst (v := (-1)) X dX2_lastPack_20 rfl ?_
        refine jq_icmp_ne 30 X dX2_lastPack_21 (by decide) (by omega) (fun c21 => ?_) (fun c21 => ?_)
        · skip
          refine jv_iload_n X dX2_lastPack_30 3 rfl ?_
          exact jv_iret (v := nI p) X dX2_lastPack_31 rfl hQ (Nat.le_of_ble_eq_true rfl) (Nat.le_of_ble_eq_true rfl) ⟨(by rw [lst_, if_pos c9, ← hf, lastN_at c21]), rfl⟩
        · skip
          have hp1 : 1 ≤ p := by obtain ⟨q, h1, h2⟩ := hx; (by_cases e : p = 0; (rw [e] at h1 c21; rw [show q = 0 by omega] at h2; exact absurd c21 h2); omega)
          refine jv_iinc (v := nI p - nI 1) (lv' := [(3, .int (nI p - nI 1)), (0, .ref o.2.1), (1, .int (nI r)), (2, .int (nI (v_ofRule S r 0)))]) X dX2_lastPack_24 3 rfl (ni_dec _) (by decide) rfl ?_
          refine jv_to (lv' := [(3, .int (nI (p - 1))), (0, .ref o.2.1), (1, .int (nI r)), (2, .int (nI (v_ofRule S r 0)))]) (st' := []) (by rw [pk_sub hp1]) rfl ?_
          refine jv_goto 14 X dX2_lastPack_27 (by decide) ?_
          refine jv_lv (lv' := [(0, .ref o.2.1), (1, .int (nI r)), (2, .int (nI (v_ofRule S r 0))), (3, .int (nI (p - 1)))]) [1, 2, 3, 0] rfl ?_
          exact ih_14 (p - 1) (by omega) (by rw [← hf]; exact (lastN_dn hp1 c21).symm) (by obtain ⟨q, h1, h2⟩ := hx; exact ⟨q, by (by_cases e : q = p; (rw [e] at h2; exact absurd c21 h2); omega), h2⟩) (by omega)
    refine jv_lv (lv' := [(0, .ref o.2.1), (1, .int (nI r)), (2, .int (nI (v_ofRule S r 0))), (3, .int (nI 5))]) [2, 3, 1, 0] rfl ?_
    exact lp14_2 (5 + 1) 5 (Nat.le_refl _) rfl (by obtain ⟨q, h1, h2⟩ := (hL r hr c9).1; exact ⟨q, by omega, h2⟩) (by omega)
theorem rch1_no {S : Nat → Nat} {c : Nat → Nat} {m : Int32} {r u : Nat} {wa wn : Bool} (h : (m >>> (nI r &&& 31)) &&& nI 1 = nI 1) (a : wa = false) (b : wn = false) (e1 : wa = if v_ofRule S r 0 = 0 then true else false) (e2 : wn = if v_ofRule S r 0 = 1 then (if u / 2 ^ v_ofRule S r 1 &&& 1 = 1 then (if c (v_ofRule S r 1) = v_ofRule S r 2 then true else false) else false) else false) : rch1 S c m r u = u := by
  subst a b
  unfold rch1
  rw [if_pos h]
  by_cases h0 : v_ofRule S r 0 = 0
  · rw [if_pos h0] at e1; cases e1
  · rw [if_neg h0]
    by_cases h1 : v_ofRule S r 0 = 1
    · rw [if_pos h1] at e2 ⊢
      by_cases h2 : u / 2 ^ v_ofRule S r 1 &&& 1 = 1
      · rw [if_pos h2] at e2 ⊢
        by_cases h3 : c (v_ofRule S r 1) = v_ofRule S r 2
        · rw [if_pos h3] at e2; cases e2
        · rw [if_neg h3]
      · rw [if_neg h2]
    · rw [if_neg h1]
theorem rch1_w {S : Nat → Nat} {c : Nat → Nat} {m : Int32} {r u wt : Nat} {wa : Bool} (h : (m >>> (nI r &&& 31)) &&& nI 1 = nI 1) (a : wa = true) (e1 : wa = if v_ofRule S r 0 = 0 then true else false) (et : wt = if wa = true then v_ofRule S r 1 else v_ofRule S r 3) : rch1 S c m r u = u ||| 2 ^ wt := by
  subst a
  rw [if_pos rfl] at et
  unfold rch1
  rw [if_pos h, et]
  by_cases h0 : v_ofRule S r 0 = 0
  · rw [if_pos h0]
  · rw [if_neg h0] at e1; cases e1
theorem rch1_n {S : Nat → Nat} {c : Nat → Nat} {m : Int32} {r u wt : Nat} {wa wn : Bool} (h : (m >>> (nI r &&& 31)) &&& nI 1 = nI 1) (a : wa = false) (b : wn = true) (e1 : wa = if v_ofRule S r 0 = 0 then true else false) (e2 : wn = if v_ofRule S r 0 = 1 then (if u / 2 ^ v_ofRule S r 1 &&& 1 = 1 then (if c (v_ofRule S r 1) = v_ofRule S r 2 then true else false) else false) else false) (et : wt = if wa = true then v_ofRule S r 1 else v_ofRule S r 3) : rch1 S c m r u = u ||| 2 ^ wt := by
  subst a b
  rw [if_neg (by decide)] at et
  unfold rch1
  rw [if_pos h, et]
  by_cases h0 : v_ofRule S r 0 = 0
  · rw [if_pos h0] at e1; cases e1
  · rw [if_neg h0]
    by_cases h1 : v_ofRule S r 0 = 1
    · rw [if_pos h1] at e2 ⊢
      by_cases h2 : u / 2 ^ v_ofRule S r 1 &&& 1 = 1
      · rw [if_pos h2] at e2 ⊢
        by_cases h3 : c (v_ofRule S r 1) = v_ofRule S r 2
        · rw [if_pos h3]
        · rw [if_neg h3] at e2; cases e2
      · rw [if_neg h2] at e2; cases e2
    · rw [if_neg h1] at e2; cases e2
theorem hd_X2_unreached : jv_dd yX2_unreached 1 := by unfold jv_dd; decide +kernel
set_option maxHeartbeats 4000000 in
theorem c_X2_unreached {l : Launch} {G : jv_G} {o : md_O} {F : Nat → Int32} {A : Nat → Nat → Int32} {S : Nat → Nat} (hO : md_K G o) (hS : ∀ j, j < 237 → A 0 j = nI (S j)) {c : Nat → Nat} {n : Nat} (hC : ∀ q, q < n → A 18 q = nI (c q)) (hcl : ∀ q, q < n → c q ≤ 9) (m : Int32) (hWs : wfS S) (hn : S 0 ≤ n) : jv_Ct G l yX2_unreached cX2_unreached 7 (some .int) 1 0 0 22 [.ref o.2.1, .int m] (md_M G o F A) (jv_qi G (jv_pi (unr S c m) (md_M G o F A))) := by
  refine jv_Ct.of (lv := [(0, .ref o.2.1), (1, .int m)]) (by decide) (Nat.le_of_ble_eq_true rfl) rfl ?_
  intro x Q_ hl_ hQ X
  subst hl_
  have hW := hWs.1
  have hS0 := hW.p
  have hrr := hW.r
  refine jv_iconst (v := nI 0) X dX2_unreached_0 rfl ?_
  refine jv_istore_n (lv' := [(2, .int (nI 0)), (0, .ref o.2.1), (1, .int m)]) X dX2_unreached_1 rfl (by decide) rfl ?_
  refine jv_iconst (v := nI 0) X dX2_unreached_2 rfl ?_
  refine jv_istore_n (lv' := [(3, .int (nI 0)), (2, .int (nI 0)), (0, .ref o.2.1), (1, .int m)]) X dX2_unreached_3 rfl (by decide) rfl ?_
  have lp4_1 : ∀ (d_4 : Nat) (t : Nat) (v : Nat), t ≤ S 0 + 1 → v = rchT S c m t → v < 64 → S 0 + 1 - t < d_4 → jv_J x G 7 Q_ (md_M G o F A) 0 0 4 [(0, .ref o.2.1), (1, .int m), (2, .int (nI v)), (3, .int (nI t))] [] := by
    intro d_4
    induction d_4 with
    | zero => intro t v ht hv hv64 hm_4; exact absurd hm_4 (Nat.not_lt_zero _)
    | succ d_4 ih_4 =>
      intro t v ht hv hv64 hm_4
      refine jv_iload_n X dX2_unreached_4 3 rfl ?_
      refine jv_aload_n X dX2_unreached_5 0 rfl ?_
      refine jm_getA X dX2_unreached_6 0 (by decide) q2010 rfl ?_
      refine jv_iconst (v := nI 0) X dX2_unreached_9 rfl ?_
      refine jm_ld (v := nI (S 0)) X hO dX2_unreached_10 0 (by decide) (show 0 < 237 from (by omega)) (hS _ (by omega)) ?_
      refine jn_icmp_gt 159 X dX2_unreached_11 (by decide) (by omega) (by omega) (fun c11 => ?_) (fun c11 => ?_)
      · skip
        have hw : v = rchT S c m (S 0 + 1) := by rw [hv, show t = S 0 + 1 by omega]
        refine jv_iconst (v := nI 0) X dX2_unreached_159 rfl ?_
        refine jv_istore_n (lv' := [(3, .int (nI 0)), (0, .ref o.2.1), (1, .int m), (2, .int (nI v))]) X dX2_unreached_160 rfl (by decide) rfl ?_
        have lp161_2 : ∀ (d_161 : Nat) (p : Nat), p ≤ S 0 → unrN c v (S 0 - p) p = unrN c v (S 0) 0 → S 0 - p < d_161 → jv_J x G 7 Q_ (md_M G o F A) 0 0 161 [(0, .ref o.2.1), (1, .int m), (2, .int (nI v)), (3, .int (nI p))] [] := by
          intro d_161
          induction d_161 with
          | zero => intro p hp hf hm_161; exact absurd hm_161 (Nat.not_lt_zero _)
          | succ d_161 ih_161 =>
            intro p hp hf hm_161
            refine jv_iload_n X dX2_unreached_161 3 rfl ?_
            refine jv_aload_n X dX2_unreached_162 0 rfl ?_
            refine jm_getA X dX2_unreached_163 0 (by decide) q2010 rfl ?_
            refine jv_iconst (v := nI 0) X dX2_unreached_166 rfl ?_
            refine jm_ld (v := nI (S 0)) X hO dX2_unreached_167 0 (by decide) (show 0 < 237 from (by omega)) (hS _ (by omega)) ?_
            refine jn_icmp_ge 197 X dX2_unreached_168 (by decide) (by omega) (by omega) (fun c168 => ?_) (fun c168 => ?_)
            · skip
              refine jv_iconst (v := (-1)) X dX2_unreached_197 rfl ?_
              exact jv_iret (v := (-1)) X dX2_unreached_198 rfl hQ (Nat.le_of_ble_eq_true rfl) (Nat.le_of_ble_eq_true rfl) ⟨(by rw [unr, ← hw, ← hf, show S 0 - p = 0 by omega]; rfl), rfl⟩
            · skip
              have hcp := hcl p (by omega)
              refine jv_aload_n X dX2_unreached_171 0 rfl ?_
              refine jm_getA X dX2_unreached_172 18 (by decide) q2028 rfl ?_
              refine jv_iload_n X dX2_unreached_175 3 rfl ?_
              refine jm_ld (v := nI (c p)) X hO dX2_unreached_176 18 (by decide) (show p < 6 from (by omega)) (hC _ (by omega)) ?_
              refine jv_iconst (v := nI 5) X dX2_unreached_177 rfl ?_
              refine jn_icmp_eq 191 X dX2_unreached_178 (by decide) (by omega) (by decide) (fun c178 => ?_) (fun c178 => ?_)
              · skip
                refine jv_iinc (v := nI (p + 1)) (lv' := [(3, .int (nI (p + 1))), (0, .ref o.2.1), (1, .int m), (2, .int (nI v))]) X dX2_unreached_191 3 rfl (nI_1 _) (by decide) rfl ?_
                refine jv_goto 161 X dX2_unreached_194 (by decide) ?_
                refine jv_lv (lv' := [(0, .ref o.2.1), (1, .int m), (2, .int (nI v)), (3, .int (nI (p + 1)))]) [1, 2, 3, 0] rfl ?_
                exact ih_161 (p + 1) (by omega) (by rw [← hf, unrN_s (show 0 < S 0 - p by omega), show S 0 - p - 1 = S 0 - (p + 1) by omega, if_pos c178]) (by omega)
              · skip
                refine jv_iload_n X dX2_unreached_181 2 rfl ?_
                refine jv_iload_n X dX2_unreached_182 3 rfl ?_
                refine jv_ishr (w := nI (v / 2 ^ p)) X dX2_unreached_183 (ni_shr (by omega) (by omega)) ?_
                refine jv_iconst (v := nI 1) X dX2_unreached_184 rfl ?_
                refine jv_iand (w := nI ((v / 2 ^ p) &&& 1)) X dX2_unreached_185 (ni_and _ _) ?_
                refine jn_if_ne 191 X dX2_unreached_186 (by decide) (Nat.lt_of_le_of_lt Nat.and_le_right (by decide)) (fun c186 => ?_) (fun c186 => ?_)
                · skip
                  refine jv_iinc (v := nI (p + 1)) (lv' := [(3, .int (nI (p + 1))), (0, .ref o.2.1), (1, .int m), (2, .int (nI v))]) X dX2_unreached_191 3 rfl (nI_1 _) (by decide) rfl ?_
                  refine jv_goto 161 X dX2_unreached_194 (by decide) ?_
                  refine jv_lv (lv' := [(0, .ref o.2.1), (1, .int m), (2, .int (nI v)), (3, .int (nI (p + 1)))]) [1, 2, 3, 0] rfl ?_
                  exact ih_161 (p + 1) (by omega) (by rw [← hf, unrN_s (show 0 < S 0 - p by omega), show S 0 - p - 1 = S 0 - (p + 1) by omega, if_neg c178, if_neg c186]) (by omega)
                · skip
                  refine jv_iload_n X dX2_unreached_189 3 rfl ?_
                  exact jv_iret (v := nI p) X dX2_unreached_190 rfl hQ (Nat.le_of_ble_eq_true rfl) (Nat.le_of_ble_eq_true rfl) ⟨(by rw [unr, ← hw, ← hf, unrN_s (show 0 < S 0 - p by omega), if_neg c178, if_pos c186]), rfl⟩
        refine jv_lv (lv' := [(0, .ref o.2.1), (1, .int m), (2, .int (nI v)), (3, .int (nI 0))]) [1, 2, 3, 0] rfl ?_
        exact lp161_2 (S 0 + 1) 0 (Nat.zero_le _) rfl (by omega)
      · skip
        refine jv_iconst (v := nI 0) X dX2_unreached_14 rfl ?_
        refine jv_istore (lv' := [(4, .int (nI 0)), (0, .ref o.2.1), (1, .int m), (2, .int (nI v)), (3, .int (nI t))]) X dX2_unreached_15 (by decide) rfl ?_
        have lp17_3 : ∀ (d_17 : Nat) (r : Nat) (u : Nat), r ≤ S 1 → u = rchR S c m r v → u < 64 → S 1 - r < d_17 → jv_J x G 7 Q_ (md_M G o F A) 0 0 17 [(0, .ref o.2.1), (1, .int m), (3, .int (nI t)), (2, .int (nI u)), (4, .int (nI r))] [] := by
          intro d_17
          induction d_17 with
          | zero => intro r u hr hu hu64 hm_17; exact absurd hm_17 (Nat.not_lt_zero _)
          | succ d_17 ih_17 =>
            intro r u hr hu hu64 hm_17
            refine jv_iload X dX2_unreached_17 4 rfl ?_
            refine jv_aload_n X dX2_unreached_19 0 rfl ?_
            refine jm_getA X dX2_unreached_20 0 (by decide) q2010 rfl ?_
            refine jv_iconst (v := nI 1) X dX2_unreached_23 rfl ?_
            refine jm_ld (v := nI (S 1)) X hO dX2_unreached_24 0 (by decide) (show 1 < 237 from (by omega)) (hS _ (by omega)) ?_
            refine jn_icmp_ge 153 X dX2_unreached_25 (by decide) (by omega) (by omega) (fun c25 => ?_) (fun c25 => ?_)
            · skip
              refine jv_iinc (v := nI (t + 1)) (lv' := [(3, .int (nI (t + 1))), (0, .ref o.2.1), (1, .int m), (2, .int (nI u)), (4, .int (nI r))]) X dX2_unreached_153 2 rfl (nI_1 _) (by decide) rfl ?_
              refine jv_goto 4 X dX2_unreached_156 (by decide) ?_
              refine jv_lv (lv' := [(0, .ref o.2.1), (1, .int m), (2, .int (nI u)), (3, .int (nI (t + 1)))]) [1, 2, 3, 0] rfl ?_
              exact ih_4 (t + 1) u (by omega) (by rw [rchT, ← hv, hu, show r = S 1 by omega]) hu64 (by omega)
            · skip
              have hk0 := hW.rk (r := r) (by omega)
              have hk1 := hW.r1 (r := r) (by omega)
              have hk2 := hW.r2 (r := r) (by omega)
              have hk3 := hW.r3 (r := r) (by omega)
              have ho := (hWs.2.1 r (by omega)).1
              refine jv_aload_n X dX2_unreached_28 0 rfl ?_
              refine jv_iload X dX2_unreached_29 4 rfl ?_
              refine jv_iconst (v := nI 0) X dX2_unreached_31 rfl ?_
              refine jv_ask (jv_runV (As := [.int (nI r), .int (nI 0)]) (rest := []) X dX2_unreached_32 (c_X2_ofRule hO hS r 0 (by omega) (by omega)) (lw_V q2142 q2144 qs46 q100 q2145) hd_X2_ofRule md_M_o rfl (Nat.le_of_ble_eq_true rfl) (Nat.le_of_ble_eq_true rfl) (Nat.le_of_ble_eq_true rfl) (Nat.le_of_ble_eq_true rfl) rfl (Nat.le_of_ble_eq_true rfl)) ?_
              have j43_4 : ∀ wa : Bool, wa = (if (v_ofRule S r 0) = 0 then true else false) → jv_J x G 7 Q_ (md_M G o F A) 0 0 43 [(0, .ref o.2.1), (1, .int m), (3, .int (nI t)), (2, .int (nI u)), (4, .int (nI r))] [.int (bI wa)] := by
                intro wa e_wa
                refine jv_istore (lv' := [(5, .int (bI wa)), (0, .ref o.2.1), (1, .int m), (3, .int (nI t)), (2, .int (nI u)), (4, .int (nI r))]) X dX2_unreached_43 (by decide) rfl ?_
                refine jv_aload_n X dX2_unreached_45 1 rfl ?_
                refine jv_iload X dX2_unreached_46 5 rfl ?_
                refine jv_iconst (v := nI 0) X dX2_unreached_48 rfl ?_
                refine jv_ask (jv_runV (As := [.int (nI r), .int (nI 0)]) (rest := []) X dX2_unreached_49 (c_X2_ofRule hO hS r 0 (by omega) (by omega)) (lw_V q2142 q2144 qs46 q100 q2145) hd_X2_ofRule md_M_o rfl (Nat.le_of_ble_eq_true rfl) (Nat.le_of_ble_eq_true rfl) (Nat.le_of_ble_eq_true rfl) (Nat.le_of_ble_eq_true rfl) rfl (Nat.le_of_ble_eq_true rfl)) ?_
                refine jv_iconst (v := nI 1) X dX2_unreached_52 rfl ?_
                have j98_5 : ∀ wn : Bool, wn = (if (v_ofRule S r 0) = 1 then (if ((u / 2 ^ (v_ofRule S r 1)) &&& 1) = 1 then (if (c (v_ofRule S r 1)) = (v_ofRule S r 2) then true else false) else false) else false) → jv_J x G 7 Q_ (md_M G o F A) 0 0 98 [(5, .int (bI wa)), (0, .ref o.2.1), (1, .int m), (3, .int (nI t)), (2, .int (nI u)), (4, .int (nI r))] [.int (bI wn)] := by
                  intro wn e_wn
                  refine jv_istore (lv' := [(6, .int (bI wn)), (5, .int (bI wa)), (0, .ref o.2.1), (1, .int m), (3, .int (nI t)), (2, .int (nI u)), (4, .int (nI r))]) X dX2_unreached_98 (by decide) rfl ?_
                  refine jv_iload_n X dX2_unreached_100 3 rfl ?_
                  refine jv_iload X dX2_unreached_101 6 rfl ?_
                  refine jv_ishr (w := m >>> ((nI r) &&& 31)) X dX2_unreached_103 rfl ?_
                  refine jv_iconst (v := nI 1) X dX2_unreached_104 rfl ?_
                  refine jv_iand (w := (m >>> ((nI r) &&& 31)) &&& (nI 1)) X dX2_unreached_105 rfl ?_
                  refine jv_iconst (v := nI 1) X dX2_unreached_106 rfl ?_
                  refine jv_icmp_ne 147 X dX2_unreached_107 (by decide) (fun c107 => ?_) (fun c107 => ?_)
                  · skip
                    have hnew : u = rchR S c m (r + 1) v := by rw [rchR, rch1, if_neg c107, ← hu]
                    refine jv_iinc (v := nI (r + 1)) (lv' := [(4, .int (nI (r + 1))), (6, .int (bI wn)), (5, .int (bI wa)), (0, .ref o.2.1), (1, .int m), (3, .int (nI t)), (2, .int (nI u))]) X dX2_unreached_147 6 rfl (nI_1 _) (by decide) rfl ?_
                    refine jv_goto 17 X dX2_unreached_150 (by decide) ?_
                    refine jv_lv (lv' := [(0, .ref o.2.1), (1, .int m), (3, .int (nI t)), (2, .int (nI u)), (4, .int (nI (r + 1)))]) [3, 4, 5, 6, 0] rfl ?_
                    exact ih_17 (r + 1) u (by omega) hnew (by rw [hnew]; exact rchR_lt hW (by omega) hv64) (by omega)
                  · skip
                    refine jv_iload X dX2_unreached_110 1 rfl ?_
                    refine jb_if_ne 120 X dX2_unreached_112 (by decide) (fun c112 => ?_) (fun c112 => ?_)
                    · skip
                      refine jv_iload_n X dX2_unreached_120 5 rfl ?_
                      refine jv_iconst (v := nI 1) X dX2_unreached_121 rfl ?_
                      refine jv_iload X dX2_unreached_122 1 rfl ?_
                      have j144_6 : ∀ wt : Nat, wt = (if wa = true then (v_ofRule S r 1) else (v_ofRule S r 3)) → jv_J x G 7 Q_ (md_M G o F A) 0 0 144 [(6, .int (bI wn)), (5, .int (bI wa)), (0, .ref o.2.1), (1, .int m), (3, .int (nI t)), (2, .int (nI u)), (4, .int (nI r))] [.int (nI wt), .int (nI 1), .int (nI u)] := by
                        intro wt e_wt
                        refine jv_ishl (w := nI (2 ^ wt)) X dX2_unreached_144 (ni_shl1 (by rw [e_wt]; split <;> omega)) ?_
                        refine jv_ior (w := nI (u ||| (2 ^ wt))) X dX2_unreached_145 (ni_or _ _) ?_
                        refine jv_istore_n (lv' := [(2, .int (nI (u ||| (2 ^ wt)))), (6, .int (bI wn)), (5, .int (bI wa)), (0, .ref o.2.1), (1, .int m), (3, .int (nI t)), (4, .int (nI r))]) X dX2_unreached_146 rfl (by decide) rfl ?_
                        have hnew : (u ||| (2 ^ wt)) = rchR S c m (r + 1) v := by rw [rchR, ← hu]; exact (rch1_w c107 c112 e_wa e_wt).symm
                        refine jv_iinc (v := nI (r + 1)) (lv' := [(4, .int (nI (r + 1))), (2, .int (nI (u ||| (2 ^ wt)))), (6, .int (bI wn)), (5, .int (bI wa)), (0, .ref o.2.1), (1, .int m), (3, .int (nI t))]) X dX2_unreached_147 6 rfl (nI_1 _) (by decide) rfl ?_
                        refine jv_goto 17 X dX2_unreached_150 (by decide) ?_
                        refine jv_lv (lv' := [(0, .ref o.2.1), (1, .int m), (3, .int (nI t)), (2, .int (nI (u ||| (2 ^ wt)))), (4, .int (nI (r + 1)))]) [4, 5, 6, 1, 0] rfl ?_
                        exact ih_17 (r + 1) (u ||| (2 ^ wt)) (by omega) hnew (by rw [hnew]; exact rchR_lt hW (by omega) hv64) (by omega)
                      refine jb_if_eq 137 X dX2_unreached_124 (by decide) (fun c124 => ?_) (fun c124 => ?_)
                      · skip
                        refine jv_aload_n X dX2_unreached_137 2 rfl ?_
                        refine jv_iload X dX2_unreached_138 6 rfl ?_
                        refine jv_iconst (v := nI 3) X dX2_unreached_140 rfl ?_
                        refine jv_ask (jv_runV (As := [.int (nI r), .int (nI 3)]) (rest := [.int (nI 1), .int (nI u)]) X dX2_unreached_141 (c_X2_ofRule hO hS r 3 (by omega) (by omega)) (lw_V q2142 q2144 qs46 q100 q2145) hd_X2_ofRule md_M_o rfl (Nat.le_of_ble_eq_true rfl) (Nat.le_of_ble_eq_true rfl) (Nat.le_of_ble_eq_true rfl) (Nat.le_of_ble_eq_true rfl) rfl (Nat.le_of_ble_eq_true rfl)) ?_
                        exact j144_6 _ (if_neg (Bool.eq_false_iff.mp c124)).symm
                      · skip
                        refine jv_aload_n X dX2_unreached_127 2 rfl ?_
                        refine jv_iload X dX2_unreached_128 6 rfl ?_
                        refine jv_iconst (v := nI 1) X dX2_unreached_130 rfl ?_
                        refine jv_ask (jv_runV (As := [.int (nI r), .int (nI 1)]) (rest := [.int (nI 1), .int (nI u)]) X dX2_unreached_131 (c_X2_ofRule hO hS r 1 (by omega) (by omega)) (lw_V q2142 q2144 qs46 q100 q2145) hd_X2_ofRule md_M_o rfl (Nat.le_of_ble_eq_true rfl) (Nat.le_of_ble_eq_true rfl) (Nat.le_of_ble_eq_true rfl) (Nat.le_of_ble_eq_true rfl) rfl (Nat.le_of_ble_eq_true rfl)) ?_
                        refine jv_goto 144 X dX2_unreached_134 (by decide) ?_
                        exact j144_6 _ (if_pos c124).symm
                    · skip
                      refine jv_iload X dX2_unreached_115 0 rfl ?_
                      refine jb_if_eq 147 X dX2_unreached_117 (by decide) (fun c117 => ?_) (fun c117 => ?_)
                      · skip
                        have hnew : u = rchR S c m (r + 1) v := by rw [rchR, ← hu]; exact (rch1_no c107 (c112) (c117) e_wa e_wn).symm
                        refine jv_iinc (v := nI (r + 1)) (lv' := [(4, .int (nI (r + 1))), (6, .int (bI wn)), (5, .int (bI wa)), (0, .ref o.2.1), (1, .int m), (3, .int (nI t)), (2, .int (nI u))]) X dX2_unreached_147 6 rfl (nI_1 _) (by decide) rfl ?_
                        refine jv_goto 17 X dX2_unreached_150 (by decide) ?_
                        refine jv_lv (lv' := [(0, .ref o.2.1), (1, .int m), (3, .int (nI t)), (2, .int (nI u)), (4, .int (nI (r + 1)))]) [3, 4, 5, 6, 0] rfl ?_
                        exact ih_17 (r + 1) u (by omega) hnew (by rw [hnew]; exact rchR_lt hW (by omega) hv64) (by omega)
                      · skip
                        refine jv_iload_n X dX2_unreached_120 5 rfl ?_
                        refine jv_iconst (v := nI 1) X dX2_unreached_121 rfl ?_
                        refine jv_iload X dX2_unreached_122 1 rfl ?_
                        have j144_7 : ∀ wt : Nat, wt = (if wa = true then (v_ofRule S r 1) else (v_ofRule S r 3)) → jv_J x G 7 Q_ (md_M G o F A) 0 0 144 [(6, .int (bI wn)), (5, .int (bI wa)), (0, .ref o.2.1), (1, .int m), (3, .int (nI t)), (2, .int (nI u)), (4, .int (nI r))] [.int (nI wt), .int (nI 1), .int (nI u)] := by
                          intro wt e_wt
                          refine jv_ishl (w := nI (2 ^ wt)) X dX2_unreached_144 (ni_shl1 (by rw [e_wt]; split <;> omega)) ?_
                          refine jv_ior (w := nI (u ||| (2 ^ wt))) X dX2_unreached_145 (ni_or _ _) ?_
                          refine jv_istore_n (lv' := [(2, .int (nI (u ||| (2 ^ wt)))), (6, .int (bI wn)), (5, .int (bI wa)), (0, .ref o.2.1), (1, .int m), (3, .int (nI t)), (4, .int (nI r))]) X dX2_unreached_146 rfl (by decide) rfl ?_
                          have hnew : (u ||| (2 ^ wt)) = rchR S c m (r + 1) v := by rw [rchR, ← hu]; exact (rch1_n c107 c112 c117 e_wa e_wn e_wt).symm
                          refine jv_iinc (v := nI (r + 1)) (lv' := [(4, .int (nI (r + 1))), (2, .int (nI (u ||| (2 ^ wt)))), (6, .int (bI wn)), (5, .int (bI wa)), (0, .ref o.2.1), (1, .int m), (3, .int (nI t))]) X dX2_unreached_147 6 rfl (nI_1 _) (by decide) rfl ?_
                          refine jv_goto 17 X dX2_unreached_150 (by decide) ?_
                          refine jv_lv (lv' := [(0, .ref o.2.1), (1, .int m), (3, .int (nI t)), (2, .int (nI (u ||| (2 ^ wt)))), (4, .int (nI (r + 1)))]) [4, 5, 6, 1, 0] rfl ?_
                          exact ih_17 (r + 1) (u ||| (2 ^ wt)) (by omega) hnew (by rw [hnew]; exact rchR_lt hW (by omega) hv64) (by omega)
                        refine jb_if_eq 137 X dX2_unreached_124 (by decide) (fun c124 => ?_) (fun c124 => ?_)
                        · skip
                          refine jv_aload_n X dX2_unreached_137 2 rfl ?_
                          refine jv_iload X dX2_unreached_138 6 rfl ?_
                          refine jv_iconst (v := nI 3) X dX2_unreached_140 rfl ?_
                          refine jv_ask (jv_runV (As := [.int (nI r), .int (nI 3)]) (rest := [.int (nI 1), .int (nI u)]) X dX2_unreached_141 (c_X2_ofRule hO hS r 3 (by omega) (by omega)) (lw_V q2142 q2144 qs46 q100 q2145) hd_X2_ofRule md_M_o rfl (Nat.le_of_ble_eq_true rfl) (Nat.le_of_ble_eq_true rfl) (Nat.le_of_ble_eq_true rfl) (Nat.le_of_ble_eq_true rfl) rfl (Nat.le_of_ble_eq_true rfl)) ?_
                          exact j144_7 _ (if_neg (Bool.eq_false_iff.mp c124)).symm
                        · skip
                          refine jv_aload_n X dX2_unreached_127 2 rfl ?_
                          refine jv_iload X dX2_unreached_128 6 rfl ?_
                          refine jv_iconst (v := nI 1) X dX2_unreached_130 rfl ?_
                          refine jv_ask (jv_runV (As := [.int (nI r), .int (nI 1)]) (rest := [.int (nI 1), .int (nI u)]) X dX2_unreached_131 (c_X2_ofRule hO hS r 1 (by omega) (by omega)) (lw_V q2142 q2144 qs46 q100 q2145) hd_X2_ofRule md_M_o rfl (Nat.le_of_ble_eq_true rfl) (Nat.le_of_ble_eq_true rfl) (Nat.le_of_ble_eq_true rfl) (Nat.le_of_ble_eq_true rfl) rfl (Nat.le_of_ble_eq_true rfl)) ?_
                          refine jv_goto 144 X dX2_unreached_134 (by decide) ?_
                          exact j144_7 _ (if_pos c124).symm
                refine jn_icmp_ne 97 X dX2_unreached_53 (by decide) (by omega) (by decide) (fun c53 => ?_) (fun c53 => ?_)
                · skip
                  refine jv_iconst (v := nI 0) X dX2_unreached_97 rfl ?_
                  exact j98_5 _ (if_neg c53).symm
                · skip
                  refine jv_iload_n X dX2_unreached_56 4 rfl ?_
                  refine jv_aload_n X dX2_unreached_57 1 rfl ?_
                  refine jv_iload X dX2_unreached_58 5 rfl ?_
                  refine jv_iconst (v := nI 1) X dX2_unreached_60 rfl ?_
                  refine jv_ask (jv_runV (As := [.int (nI r), .int (nI 1)]) (rest := [.int (nI u)]) X dX2_unreached_61 (c_X2_ofRule hO hS r 1 (by omega) (by omega)) (lw_V q2142 q2144 qs46 q100 q2145) hd_X2_ofRule md_M_o rfl (Nat.le_of_ble_eq_true rfl) (Nat.le_of_ble_eq_true rfl) (Nat.le_of_ble_eq_true rfl) (Nat.le_of_ble_eq_true rfl) rfl (Nat.le_of_ble_eq_true rfl)) ?_
                  refine jv_ishr (w := nI (u / 2 ^ (v_ofRule S r 1))) X dX2_unreached_64 (ni_shr (by omega) (by omega)) ?_
                  refine jv_iconst (v := nI 1) X dX2_unreached_65 rfl ?_
                  refine jv_iand (w := nI ((u / 2 ^ (v_ofRule S r 1)) &&& 1)) X dX2_unreached_66 (ni_and _ _) ?_
                  refine jv_iconst (v := nI 1) X dX2_unreached_67 rfl ?_
                  refine jn_icmp_ne 97 X dX2_unreached_68 (by decide) (Nat.lt_of_le_of_lt Nat.and_le_right (by decide)) (by decide) (fun c68 => ?_) (fun c68 => ?_)
                  · skip
                    refine jv_iconst (v := nI 0) X dX2_unreached_97 rfl ?_
                    exact j98_5 _ ((if_pos c53).trans (if_neg c68)).symm
                  · skip
                    have hcc := hcl _ (show v_ofRule S r 1 < n by omega)
                    refine jv_aload_n X dX2_unreached_71 1 rfl ?_
                    refine jm_getA X dX2_unreached_72 18 (by decide) q2028 rfl ?_
                    refine jv_aload_n X dX2_unreached_75 1 rfl ?_
                    refine jv_iload X dX2_unreached_76 5 rfl ?_
                    refine jv_iconst (v := nI 1) X dX2_unreached_78 rfl ?_
                    refine jv_ask (jv_runV (As := [.int (nI r), .int (nI 1)]) (rest := [.ref (o.2.2 18)]) X dX2_unreached_79 (c_X2_ofRule hO hS r 1 (by omega) (by omega)) (lw_V q2142 q2144 qs46 q100 q2145) hd_X2_ofRule md_M_o rfl (Nat.le_of_ble_eq_true rfl) (Nat.le_of_ble_eq_true rfl) (Nat.le_of_ble_eq_true rfl) (Nat.le_of_ble_eq_true rfl) rfl (Nat.le_of_ble_eq_true rfl)) ?_
                    refine jm_ld (v := nI (c (v_ofRule S r 1))) X hO dX2_unreached_82 18 (by decide) (show (v_ofRule S r 1) < 6 from (by omega)) (hC _ (by omega)) ?_
                    refine jv_aload_n X dX2_unreached_83 1 rfl ?_
                    refine jv_iload X dX2_unreached_84 5 rfl ?_
                    refine jv_iconst (v := nI 2) X dX2_unreached_86 rfl ?_
                    refine jv_ask (jv_runV (As := [.int (nI r), .int (nI 2)]) (rest := [.int (nI (c (v_ofRule S r 1)))]) X dX2_unreached_87 (c_X2_ofRule hO hS r 2 (by omega) (by omega)) (lw_V q2142 q2144 qs46 q100 q2145) hd_X2_ofRule md_M_o rfl (Nat.le_of_ble_eq_true rfl) (Nat.le_of_ble_eq_true rfl) (Nat.le_of_ble_eq_true rfl) (Nat.le_of_ble_eq_true rfl) rfl (Nat.le_of_ble_eq_true rfl)) ?_
                    refine jn_icmp_ne 97 X dX2_unreached_90 (by decide) (by omega) (by omega) (fun c90 => ?_) (fun c90 => ?_)
                    · skip
                      refine jv_iconst (v := nI 0) X dX2_unreached_97 rfl ?_
                      exact j98_5 _ (((if_pos c53).trans (if_pos c68)).trans (if_neg c90)).symm
                    · skip
                      refine jv_iconst (v := nI 1) X dX2_unreached_93 rfl ?_
                      refine jv_goto 98 X dX2_unreached_94 (by decide) ?_
                      exact j98_5 _ (((if_pos c53).trans (if_pos c68)).trans (if_pos c90)).symm
              refine jn_if_ne 42 X dX2_unreached_35 (by decide) (by omega) (fun c35 => ?_) (fun c35 => ?_)
              · skip
                refine jv_iconst (v := nI 0) X dX2_unreached_42 rfl ?_
                exact j43_4 _ (if_neg c35).symm
              · skip
                refine jv_iconst (v := nI 1) X dX2_unreached_38 rfl ?_
                refine jv_goto 43 X dX2_unreached_39 (by decide) ?_
                exact j43_4 _ (if_pos c35).symm
        refine jv_lv (lv' := [(0, .ref o.2.1), (1, .int m), (3, .int (nI t)), (2, .int (nI v)), (4, .int (nI 0))]) [1, 2, 4, 3, 0] rfl ?_
        exact lp17_3 (S 1 + 1) 0 v (Nat.zero_le _) rfl hv64 (by omega)
  refine jv_lv (lv' := [(0, .ref o.2.1), (1, .int m), (2, .int (nI 0)), (3, .int (nI 0))]) [2, 3, 1, 0] rfl ?_
  exact lp4_1 (S 0 + 1 + 1) 0 0 (Nat.zero_le _) rfl (by decide) (by omega)
theorem hd_X2_isAsAssumed : jv_dd yX2_isAsAssumed 1 := by unfold jv_dd; decide +kernel
set_option maxHeartbeats 4000000 in
theorem c_X2_isAsAssumed {l : Launch} {G : jv_G} {o : md_O} {F : Nat → Int32} {A : Nat → Nat → Int32} {S : Nat → Nat} (hO : md_K G o) (hS : ∀ j, j < 237 → A 0 j = nI (S j)) {c : Nat → Nat} {n : Nat} (hC : ∀ q, q < n → A 18 q = nI (c q)) (hcl : ∀ q, q < n → c q ≤ 9) (p : Nat) (hp : p < n) (hp6 : p < 6) (hW : wfB S) : jv_Ct G l yX2_isAsAssumed cX2_isAsAssumed 3 (some .boolean) 0 0 0 0 [.ref o.2.1, .int (nI p)] (md_M G o F A) (jv_qi G (jv_pi (bI (asaN S p c (S 2))) (md_M G o F A))) := by
  refine jv_Ct.of (lv := [(0, .ref o.2.1), (1, .int (nI p))]) (by decide) (Nat.le_of_ble_eq_true rfl) rfl ?_
  intro x Q_ hl_ hQ X
  subst hl_
  have h2 := hW.a
  have hcp := hcl p hp
  refine jv_iconst (v := nI 0) X dX2_isAsAssumed_0 rfl ?_
  refine jv_istore_n (lv' := [(2, .int (nI 0)), (0, .ref o.2.1), (1, .int (nI p))]) X dX2_isAsAssumed_1 rfl (by decide) rfl ?_
  have lp2_1 : ∀ (d_2 : Nat) (a : Nat), a ≤ S 2 → asaN S p c a = true → S 2 - a < d_2 → jv_J x G 3 Q_ (md_M G o F A) 0 0 2 [(0, .ref o.2.1), (1, .int (nI p)), (2, .int (nI a))] [] := by
    intro d_2
    induction d_2 with
    | zero => intro a ha hf hm_2; exact absurd hm_2 (Nat.not_lt_zero _)
    | succ d_2 ih_2 =>
      intro a ha hf hm_2
      refine jv_iload_n X dX2_isAsAssumed_2 2 rfl ?_
      refine jv_aload_n X dX2_isAsAssumed_3 0 rfl ?_
      refine jm_getA X dX2_isAsAssumed_4 0 (by decide) q2010 rfl ?_
      refine jv_iconst (v := nI 2) X dX2_isAsAssumed_7 rfl ?_
      refine jm_ld (v := nI (S 2)) X hO dX2_isAsAssumed_8 0 (by decide) (show 2 < 237 from (by omega)) (hS _ (by omega)) ?_
      refine jn_icmp_ge 59 X dX2_isAsAssumed_9 (by decide) (by omega) (by omega) (fun c9 => ?_) (fun c9 => ?_)
      · skip
        refine jv_iconst (v := nI 1) X dX2_isAsAssumed_59 rfl ?_
        exact jv_iret (v := bI true) X dX2_isAsAssumed_60 (bI_nar _) hQ (Nat.le_of_ble_eq_true rfl) (Nat.le_of_ble_eq_true rfl) ⟨(by rw [show S 2 = a by omega, hf]), rfl⟩
      · skip
        have ha0 := hW.a0 (a := a) (by omega)
        have ha1 := hW.a1 (a := a) (by omega)
        refine jv_aload_n X dX2_isAsAssumed_12 0 rfl ?_
        refine jm_getA X dX2_isAsAssumed_13 0 (by decide) q2010 rfl ?_
        refine jv_sipush (v := nI 225) X dX2_isAsAssumed_16 rfl ?_
        refine jv_iconst (v := nI 2) X dX2_isAsAssumed_19 rfl ?_
        refine jv_iload_n X dX2_isAsAssumed_20 2 rfl ?_
        refine jv_imul (w := nI (2 * a)) X dX2_isAsAssumed_21 (pk_mul _ _) ?_
        refine jv_iadd (w := nI (225 + (2 * a))) X dX2_isAsAssumed_22 (nI_add _ _) ?_
        refine jm_ld (v := nI (v_asm S a 0)) X hO dX2_isAsAssumed_23 0 (by decide) (show (225 + (2 * a)) < 237 from (by omega)) (hS _ (by omega)) ?_
        refine jv_iload_n X dX2_isAsAssumed_24 1 rfl ?_
        refine jn_icmp_ne 53 X dX2_isAsAssumed_25 (by decide) (by omega) (by omega) (fun c25 => ?_) (fun c25 => ?_)
        · skip
          refine jv_iinc (v := nI (a + 1)) (lv' := [(2, .int (nI (a + 1))), (0, .ref o.2.1), (1, .int (nI p))]) X dX2_isAsAssumed_53 2 rfl (nI_1 _) (by decide) rfl ?_
          refine jv_goto 2 X dX2_isAsAssumed_56 (by decide) ?_
          refine jv_lv (lv' := [(0, .ref o.2.1), (1, .int (nI p)), (2, .int (nI (a + 1)))]) [1, 2, 0] rfl ?_
          exact ih_2 (a + 1) (by omega) (by rw [asaN, hf, Bool.true_and, if_neg c25]) (by omega)
        · skip
          refine jv_aload_n X dX2_isAsAssumed_28 0 rfl ?_
          refine jm_getA X dX2_isAsAssumed_29 0 (by decide) q2010 rfl ?_
          refine jv_sipush (v := nI 225) X dX2_isAsAssumed_32 rfl ?_
          refine jv_iconst (v := nI 2) X dX2_isAsAssumed_35 rfl ?_
          refine jv_iload_n X dX2_isAsAssumed_36 2 rfl ?_
          refine jv_imul (w := nI (2 * a)) X dX2_isAsAssumed_37 (pk_mul _ _) ?_
          refine jv_iadd (w := nI (225 + (2 * a))) X dX2_isAsAssumed_38 (nI_add _ _) ?_
          refine jv_iconst (v := nI 1) X dX2_isAsAssumed_39 rfl ?_
          refine jv_iadd (w := nI ((225 + (2 * a)) + 1)) X dX2_isAsAssumed_40 (nI_add _ _) ?_
          refine jm_ld (v := nI (v_asm S a 1)) X hO dX2_isAsAssumed_41 0 (by decide) (show ((225 + (2 * a)) + 1) < 237 from (by omega)) (hS _ (by omega)) ?_
          refine jv_aload_n X dX2_isAsAssumed_42 0 rfl ?_
          refine jm_getA X dX2_isAsAssumed_43 18 (by decide) q2028 rfl ?_
          refine jv_iload_n X dX2_isAsAssumed_46 1 rfl ?_
          refine jm_ld (v := nI (c p)) X hO dX2_isAsAssumed_47 18 (by decide) (show p < 6 from (by omega)) (hC _ (by omega)) ?_
          refine jn_icmp_eq 53 X dX2_isAsAssumed_48 (by decide) (by omega) (by omega) (fun c48 => ?_) (fun c48 => ?_)
          · skip
            refine jv_iinc (v := nI (a + 1)) (lv' := [(2, .int (nI (a + 1))), (0, .ref o.2.1), (1, .int (nI p))]) X dX2_isAsAssumed_53 2 rfl (nI_1 _) (by decide) rfl ?_
            refine jv_goto 2 X dX2_isAsAssumed_56 (by decide) ?_
            refine jv_lv (lv' := [(0, .ref o.2.1), (1, .int (nI p)), (2, .int (nI (a + 1)))]) [1, 2, 0] rfl ?_
            exact ih_2 (a + 1) (by omega) (by rw [asaN, hf, Bool.true_and, if_pos c25, if_pos c48]) (by omega)
          · skip
            refine jv_iconst (v := nI 0) X dX2_isAsAssumed_51 rfl ?_
            exact jv_iret (v := bI false) X dX2_isAsAssumed_52 (bI_nar _) hQ (Nat.le_of_ble_eq_true rfl) (Nat.le_of_ble_eq_true rfl) ⟨(by rw [asaN_f c25 c48 c9]), rfl⟩
  refine jv_lv (lv' := [(0, .ref o.2.1), (1, .int (nI p)), (2, .int (nI 0))]) [1, 2, 0] rfl ?_
  exact lp2_1 (S 2 + 1) 0 (Nat.zero_le _) rfl (by omega)
theorem lst_le {S : Nat → Nat} (hW : wfS S) {r : Nat} (hr : r < S 1) : lst_ S r ≤ 5 := by
  have h1 := (hW.2.1 r hr).1
  have h3 := (hW.2.1 r hr).2
  have h0 := hW.1.p
  unfold lst_
  split
  · exact lastN_le S r 5
  · split
    · omega
    · split <;> omega
theorem hd_X2_fits : jv_dd yX2_fits 2 := by unfold jv_dd; decide +kernel
set_option maxHeartbeats 4000000 in
theorem c_X2_fits {l : Launch} {G : jv_G} {o : md_O} {F : Nat → Int32} {A : Nat → Nat → Int32} {S : Nat → Nat} (hO : md_K G o) (hS : ∀ j, j < 237 → A 0 j = nI (S j)) {c : Nat → Nat} {n : Nat} (hC : ∀ q, q < n → A 18 q = nI (c q)) (hcl : ∀ q, q < n → c q ≤ 9) (p : Nat) (m : Int32) (hp : p < n) (hn0 : n ≤ S 0) (hWs : wfS S) (hL : wfL S) : jv_Ct G l yX2_fits cX2_fits 5 (some .boolean) 4 0 0 97 [.ref o.2.1, .int (nI p), .int m] (md_M G o F A) (jv_qi G (jv_pi (bI (fit_ S m p c)) (md_M G o F A))) := by
  refine jv_Ct.of (lv := [(0, .ref o.2.1), (1, .int (nI p)), (2, .int m)]) (by decide) (Nat.le_of_ble_eq_true rfl) rfl ?_
  intro x Q_ hl_ hQ X
  subst hl_
  have hW := hWs.1
  have hS0 := hW.p
  have hrr := hW.r
  have h2 := hW.a
  refine jv_aload_n X dX2_fits_0 0 rfl ?_
  refine jv_iload_n X dX2_fits_1 1 rfl ?_
  refine jv_ask (jv_runV (As := [.int (nI p)]) (rest := []) X dX2_fits_2 (c_X2_isAsAssumed hO hS hC hcl p (by omega) (by omega) hW) (lw_V q2343 q2345 qs74 q100 q2346) hd_X2_isAsAssumed md_M_o rfl (Nat.le_of_ble_eq_true rfl) (Nat.le_of_ble_eq_true rfl) (Nat.le_of_ble_eq_true rfl) (Nat.le_of_ble_eq_true rfl) rfl (Nat.le_of_ble_eq_true rfl)) ?_
  refine jv_istore_n (lv' := [(3, .int (bI (asaN S p c (S 2)))), (0, .ref o.2.1), (1, .int (nI p)), (2, .int m)]) X dX2_fits_5 rfl (by decide) rfl ?_
  refine jv_iconst (v := nI 0) X dX2_fits_6 rfl ?_
  refine jv_istore (lv' := [(4, .int (nI 0)), (3, .int (bI (asaN S p c (S 2)))), (0, .ref o.2.1), (1, .int (nI p)), (2, .int m)]) X dX2_fits_7 (by decide) rfl ?_
  have lp9_1 : ∀ (d_9 : Nat) (r : Nat) (b : Bool), r ≤ S 1 → b = fitN S m p c r → S 1 - r < d_9 → jv_J x G 5 Q_ (md_M G o F A) 0 0 9 [(0, .ref o.2.1), (1, .int (nI p)), (2, .int m), (3, .int (bI b)), (4, .int (nI r))] [] := by
    intro d_9
    induction d_9 with
    | zero => intro r b hr hb hm_9; exact absurd hm_9 (Nat.not_lt_zero _)
    | succ d_9 ih_9 =>
      intro r b hr hb hm_9
      refine jv_iload X dX2_fits_9 4 rfl ?_
      refine jv_aload_n X dX2_fits_11 0 rfl ?_
      refine jm_getA X dX2_fits_12 0 (by decide) q2010 rfl ?_
      refine jv_iconst (v := nI 1) X dX2_fits_15 rfl ?_
      refine jm_ld (v := nI (S 1)) X hO dX2_fits_16 0 (by decide) (show 1 < 237 from (by omega)) (hS _ (by omega)) ?_
      refine jn_icmp_ge 64 X dX2_fits_17 (by decide) (by omega) (by omega) (fun c17 => ?_) (fun c17 => ?_)
      · skip
        refine jv_iload_n X dX2_fits_64 3 rfl ?_
        exact jv_iret (v := bI b) X dX2_fits_65 (bI_nar _) hQ (Nat.le_of_ble_eq_true rfl) (Nat.le_of_ble_eq_true rfl) ⟨(by rw [fit_, hb, show r = S 1 by omega]), rfl⟩
      · skip
        refine jv_iload_n X dX2_fits_20 3 rfl ?_
        refine jb_if_eq 64 X dX2_fits_21 (by decide) (fun c21 => ?_) (fun c21 => ?_)
        · skip
          refine jv_iload_n X dX2_fits_64 3 rfl ?_
          exact jv_iret (v := bI b) X dX2_fits_65 (bI_nar _) hQ (Nat.le_of_ble_eq_true rfl) (Nat.le_of_ble_eq_true rfl) ⟨(by rw [c21, fit_, fitN_f (hb.symm.trans c21) hr]), rfl⟩
        · skip
          refine jv_iload_n X dX2_fits_24 2 rfl ?_
          refine jv_iload X dX2_fits_25 4 rfl ?_
          refine jv_ishr (w := m >>> ((nI r) &&& 31)) X dX2_fits_27 rfl ?_
          refine jv_iconst (v := nI 1) X dX2_fits_28 rfl ?_
          refine jv_iand (w := (m >>> ((nI r) &&& 31)) &&& (nI 1)) X dX2_fits_29 rfl ?_
          have j57_2 : ∀ wf : Bool, wf = (if ((m >>> ((nI r) &&& 31)) &&& (nI 1)) = 0 then true else (if (lst_ S r) = p then (if (hld S r c) = true then true else false) else true)) → jv_J x G 5 Q_ (md_M G o F A) 0 0 57 [(0, .ref o.2.1), (1, .int (nI p)), (2, .int m), (3, .int (bI b)), (4, .int (nI r))] [.int (bI wf)] := by
            intro wf e_wf
            refine jv_istore_n (lv' := [(3, .int (bI wf)), (0, .ref o.2.1), (1, .int (nI p)), (2, .int m), (4, .int (nI r))]) X dX2_fits_57 rfl (by decide) rfl ?_
            refine jv_iinc (v := nI (r + 1)) (lv' := [(4, .int (nI (r + 1))), (3, .int (bI wf)), (0, .ref o.2.1), (1, .int (nI p)), (2, .int m)]) X dX2_fits_58 4 rfl (nI_1 _) (by decide) rfl ?_
            refine jv_goto 9 X dX2_fits_61 (by decide) ?_
            refine jv_lv (lv' := [(0, .ref o.2.1), (1, .int (nI p)), (2, .int m), (3, .int (bI wf)), (4, .int (nI (r + 1)))]) [2, 3, 4, 1, 0] rfl ?_
            exact ih_9 (r + 1) wf (by omega) (by rw [fitN, ← hb, if_pos c21]; exact e_wf) (by omega)
          refine jv_if_eq 52 X dX2_fits_30 (by decide) (fun c30 => ?_) (fun c30 => ?_)
          · skip
            refine jv_iconst (v := nI 1) X dX2_fits_52 rfl ?_
            refine jv_goto 57 X dX2_fits_53 (by decide) ?_
            exact j57_2 _ (if_pos c30).symm
          · skip
            refine jv_aload_n X dX2_fits_33 0 rfl ?_
            refine jv_iload X dX2_fits_34 4 rfl ?_
            refine jv_ask (jv_runV (As := [.int (nI r)]) (rest := []) X dX2_fits_36 (c_X2_lastPack hO hS r (by omega) hWs hL) (lw_V q2347 q2349 qs75 q100 q2350) hd_X2_lastPack md_M_o rfl (Nat.le_of_ble_eq_true rfl) (Nat.le_of_ble_eq_true rfl) (Nat.le_of_ble_eq_true rfl) (Nat.le_of_ble_eq_true rfl) rfl (Nat.le_of_ble_eq_true rfl)) ?_
            refine jv_iload_n X dX2_fits_39 1 rfl ?_
            refine jn_icmp_ne 52 X dX2_fits_40 (by decide) (Nat.lt_of_le_of_lt (lst_le hWs (by omega)) (by decide)) (by omega) (fun c40 => ?_) (fun c40 => ?_)
            · skip
              refine jv_iconst (v := nI 1) X dX2_fits_52 rfl ?_
              refine jv_goto 57 X dX2_fits_53 (by decide) ?_
              exact j57_2 _ ((if_neg c30).trans (if_neg c40)).symm
            · skip
              refine jv_aload_n X dX2_fits_43 0 rfl ?_
              refine jv_iload X dX2_fits_44 4 rfl ?_
              refine jv_ask (jv_runV (As := [.int (nI r)]) (rest := []) X dX2_fits_46 (c_X2_holds hO hS hC hcl r (by omega) hWs (fun h q hq hd => Nat.lt_of_le_of_lt (c40 ▸ lst_ge.1 h q (by omega) hd) hp) (fun h => ⟨Nat.lt_of_le_of_lt (c40 ▸ (lst_ge.2 h).1) hp, Nat.lt_of_le_of_lt (c40 ▸ (lst_ge.2 h).2) hp⟩)) (lw_V q2351 q2353 qs76 q100 q2354) hd_X2_holds md_M_o rfl (Nat.le_of_ble_eq_true rfl) (Nat.le_of_ble_eq_true rfl) (Nat.le_of_ble_eq_true rfl) (Nat.le_of_ble_eq_true rfl) rfl (Nat.le_of_ble_eq_true rfl)) ?_
              refine jb_if_eq 56 X dX2_fits_49 (by decide) (fun c49 => ?_) (fun c49 => ?_)
              · skip
                refine jv_iconst (v := nI 0) X dX2_fits_56 rfl ?_
                exact j57_2 _ (((if_neg c30).trans (if_pos c40)).trans (if_neg (Bool.eq_false_iff.mp c49))).symm
              · skip
                refine jv_iconst (v := nI 1) X dX2_fits_52 rfl ?_
                refine jv_goto 57 X dX2_fits_53 (by decide) ?_
                exact j57_2 _ (((if_neg c30).trans (if_pos c40)).trans (if_pos c49)).symm
  refine jv_lv (lv' := [(0, .ref o.2.1), (1, .int (nI p)), (2, .int m), (3, .int (bI (asaN S p c (S 2)))), (4, .int (nI 0))]) [2, 3, 4, 1, 0] rfl ?_
  exact lp9_1 (S 1 + 1) 0 (asaN S p c (S 2)) (Nat.zero_le _) rfl (by omega)
theorem ni_sub2 {n k : Nat} (h : k ≤ n) : nI n - nI 1 - nI k = nI (n - k) - nI 1 := by
  rw [← pk_sub h]
  apply Int32.toBitVec_inj.mp
  show (nI n).toBitVec - (nI 1).toBitVec - (nI k).toBitVec = (nI n).toBitVec - (nI k).toBitVec - (nI 1).toBitVec
  rw [BitVec.sub_sub, BitVec.sub_sub, BitVec.add_comm]
theorem hd_X2_byRank : jv_dd yX2_byRank 2 := by unfold jv_dd; decide +kernel
set_option maxHeartbeats 4000000 in
theorem c_X2_byRank {l : Launch} {G : jv_G} {o : md_O} {F : Nat → Int32} {A : Nat → Nat → Int32} {S : Nat → Nat} (hO : md_K G o) (hS : ∀ j, j < 237 → A 0 j = nI (S j)) (p : Nat) (k : Nat) (hp : p < 6) (hk : k ≤ v_of S p 0) (hW : wfB S) : jv_Ct G l yX2_byRank cX2_byRank 4 (some .int) 2 0 0 46 [.ref o.2.1, .int (nI p), .int (nI k)] (md_M G o F A) (jv_qi G (jv_pi (nI (rk S p k)) (md_M G o F A))) := by
  refine jv_Ct.of (lv := [(0, .ref o.2.1), (1, .int (nI p)), (2, .int (nI k))]) (by decide) (Nat.le_of_ble_eq_true rfl) rfl ?_
  intro x Q_ hl_ hQ X
  subst hl_
  have hnv := hW.nv hp
  refine jv_iconst (v := nI 0) X dX2_byRank_0 rfl ?_
  refine jv_istore_n (lv' := [(3, .int (nI 0)), (0, .ref o.2.1), (1, .int (nI p)), (2, .int (nI k))]) X dX2_byRank_1 rfl (by decide) rfl ?_
  have lp2_1 : ∀ (d_2 : Nat) (v : Nat), v ≤ v_of S p 0 → rkN S p k (v_of S p 0 - v) v = rk S p k → v_of S p 0 - v < d_2 → jv_J x G 4 Q_ (md_M G o F A) 0 0 2 [(0, .ref o.2.1), (1, .int (nI p)), (2, .int (nI k)), (3, .int (nI v))] [] := by
    intro d_2
    induction d_2 with
    | zero => intro v hv hf hm_2; exact absurd hm_2 (Nat.not_lt_zero _)
    | succ d_2 ih_2 =>
      intro v hv hf hm_2
      refine jv_iload_n X dX2_byRank_2 3 rfl ?_
      refine jv_aload_n X dX2_byRank_3 0 rfl ?_
      refine jv_iload_n X dX2_byRank_4 1 rfl ?_
      refine jv_iconst (v := nI 0) X dX2_byRank_5 rfl ?_
      refine jv_ask (jv_runV (As := [.int (nI p), .int (nI 0)]) (rest := [.int (nI v)]) X dX2_byRank_6 (c_X2_of hO hS p 0 (by omega) (by omega)) (lw_V q2115 q2117 qs42 q100 q2118) hd_X2_of md_M_o rfl (Nat.le_of_ble_eq_true rfl) (Nat.le_of_ble_eq_true rfl) (Nat.le_of_ble_eq_true rfl) (Nat.le_of_ble_eq_true rfl) rfl (Nat.le_of_ble_eq_true rfl)) ?_
      refine jn_icmp_ge 39 X dX2_byRank_9 (by decide) (by omega) (by omega) (fun c9 => ?_) (fun c9 => ?_)
      · skip
        refine jv_iconst (v := nI 5) X dX2_byRank_39 rfl ?_
        exact jv_iret (v := nI 5) X dX2_byRank_40 rfl hQ (Nat.le_of_ble_eq_true rfl) (Nat.le_of_ble_eq_true rfl) ⟨(by rw [← hf, show v_of S p 0 - v = 0 by omega]; rfl), rfl⟩
      · skip
        have hbf := bef_le hW hp v
        refine jv_aload_n X dX2_byRank_12 0 rfl ?_
        refine jv_iload_n X dX2_byRank_13 1 rfl ?_
        refine jv_iload_n X dX2_byRank_14 3 rfl ?_
        refine jv_ask (jv_runV (As := [.int (nI p), .int (nI v)]) (rest := []) X dX2_byRank_15 (c_X2_beforeOf hO hS p v (by omega) (by omega) hW) (lw_V q2131 q2133 qs44 q100 q2134) hd_X2_beforeOf md_M_o rfl (Nat.le_of_ble_eq_true rfl) (Nat.le_of_ble_eq_true rfl) (Nat.le_of_ble_eq_true rfl) (Nat.le_of_ble_eq_true rfl) rfl (Nat.le_of_ble_eq_true rfl)) ?_
        refine jv_aload_n X dX2_byRank_18 0 rfl ?_
        refine jv_iload_n X dX2_byRank_19 1 rfl ?_
        refine jv_iconst (v := nI 0) X dX2_byRank_20 rfl ?_
        refine jv_ask (jv_runV (As := [.int (nI p), .int (nI 0)]) (rest := [.int (nI (bef S p v))]) X dX2_byRank_21 (c_X2_of hO hS p 0 (by omega) (by omega)) (lw_V q2115 q2117 qs42 q100 q2118) hd_X2_of md_M_o rfl (Nat.le_of_ble_eq_true rfl) (Nat.le_of_ble_eq_true rfl) (Nat.le_of_ble_eq_true rfl) (Nat.le_of_ble_eq_true rfl) rfl (Nat.le_of_ble_eq_true rfl)) ?_
        refine jv_iconst (v := nI 1) X dX2_byRank_24 rfl ?_
        refine jv_isub (w := nI (v_of S p 0) - nI 1) X dX2_byRank_25 rfl ?_
        refine jv_iload_n X dX2_byRank_26 2 rfl ?_
        refine jv_isub (w := nI (v_of S p 0 - k) - nI 1) X dX2_byRank_27 (ni_sub2 hk) ?_
        refine jnm_icmp_ne 33 X dX2_byRank_28 (by decide) (by omega) (by omega) (fun c28 => ?_) (fun c28 => ?_)
        · skip
          refine jv_iinc (v := nI (v + 1)) (lv' := [(3, .int (nI (v + 1))), (0, .ref o.2.1), (1, .int (nI p)), (2, .int (nI k))]) X dX2_byRank_33 3 rfl (nI_1 _) (by decide) rfl ?_
          refine jv_goto 2 X dX2_byRank_36 (by decide) ?_
          refine jv_lv (lv' := [(0, .ref o.2.1), (1, .int (nI p)), (2, .int (nI k)), (3, .int (nI (v + 1)))]) [1, 2, 3, 0] rfl ?_
          exact ih_2 (v + 1) (by omega) (by rw [← hf, rkN_s (show 0 < v_of S p 0 - v by omega), if_neg c28, show v_of S p 0 - v - 1 = v_of S p 0 - (v + 1) by omega]) (by omega)
        · skip
          refine jv_iload_n X dX2_byRank_31 3 rfl ?_
          exact jv_iret (v := nI v) X dX2_byRank_32 rfl hQ (Nat.le_of_ble_eq_true rfl) (Nat.le_of_ble_eq_true rfl) ⟨(by rw [← hf, rkN_s (show 0 < v_of S p 0 - v by omega), if_pos c28]), rfl⟩
  refine jv_lv (lv' := [(0, .ref o.2.1), (1, .int (nI p)), (2, .int (nI k)), (3, .int (nI 0))]) [1, 2, 3, 0] rfl ?_
  exact lp2_1 (v_of S p 0 + 1) 0 (Nat.zero_le _) rfl (by omega)
