/-! reference, fourth -/
set_option maxRecDepth 100000
theorem hd_X2_rests : jv_dd yX2_rests 2 := by unfold jv_dd; decide +kernel
set_option maxHeartbeats 4000000 in
theorem c_X2_rests {l : Launch} {G : jv_G} {o : md_O} {F : Nat → Int32} {A : Nat → Nat → Int32} {S : Nat → Nat} (hO : md_K G o) (hS : ∀ j, j < 237 → A 0 j = nI (S j)) {T : t_T2} (hT : isT S F A T) (hk : okT T) (hwf : wfT S T) (i : Nat) (k : Nat) (hi : i < tn T) (hkk : k < tn T) (hWs : wfS S) : jv_Ct G l yX2_rests cX2_rests 6 (some .boolean) 2 0 0 46 [.ref o.2.1, .int (nI i), .int (nI k)] (md_M G o F A) (jv_qi G (jv_pi (bI (v_rests S T i k)) (md_M G o F A))) := by
  refine jv_Ct.of (lv := [(0, .ref o.2.1), (1, .int (nI i)), (2, .int (nI k))]) (by decide) (Nat.le_of_ble_eq_true rfl) rfl ?_
  intro x Q_ hl_ hQ X
  subst hl_
  have hW := hWs.1
  have hn36 : tn T ≤ 36 := by have := hk.1; omega
  have hS0 := hW.p
  have hrr := hW.r
  have hwi := hwf i hi
  have hwk := hwf k hkk
  refine jv_aload_n X dX2_rests_0 0 rfl ?_
  refine jm_getA X dX2_rests_1 13 (by decide) q2023 rfl ?_
  refine jv_iload_n X dX2_rests_4 1 rfl ?_
  refine jm_ld (v := nI (tb T i)) X hO dX2_rests_5 13 (by decide) (show i < 40 from (by omega)) (hT.2.2.2.1 _ (by omega)) ?_
  refine jv_istore_n (lv' := [(3, .int (nI (tb T i))), (0, .ref o.2.1), (1, .int (nI i)), (2, .int (nI k))]) X dX2_rests_6 rfl (by decide) rfl ?_
  refine jv_aload_n X dX2_rests_7 1 rfl ?_
  refine jm_getA X dX2_rests_8 14 (by decide) q2024 rfl ?_
  refine jv_iload_n X dX2_rests_11 3 rfl ?_
  refine jm_ld (v := nI (tp T k)) X hO dX2_rests_12 14 (by decide) (show k < 40 from (by omega)) (hT.2.2.2.2.1 _ (by omega)) ?_
  refine jv_istore (lv' := [(4, .int (nI (tp T k))), (3, .int (nI (tb T i))), (0, .ref o.2.1), (1, .int (nI i)), (2, .int (nI k))]) X dX2_rests_13 (by decide) rfl ?_
  refine jv_iload_n X dX2_rests_15 1 rfl ?_
  refine jv_bipush (v := nI 100) X dX2_rests_16 rfl ?_
  refine jn_icmp_ge 32 X dX2_rests_18 (by decide) (by omega) (by decide) (fun c18 => ?_) (fun c18 => ?_)
  · skip
    refine jv_iconst (v := nI 0) X dX2_rests_32 rfl ?_
    exact jv_iret (v := bI false) X dX2_rests_33 (bI_nar _) hQ (Nat.le_of_ble_eq_true rfl) (Nat.le_of_ble_eq_true rfl) ⟨(congrArg bI ((if_pos c18).symm)), rfl⟩
  · skip
    refine jv_iload X dX2_rests_21 0 rfl ?_
    refine jv_aload_n X dX2_rests_23 2 rfl ?_
    refine jm_getA X dX2_rests_24 14 (by decide) q2024 rfl ?_
    refine jv_iload_n X dX2_rests_27 3 rfl ?_
    refine jm_ld (v := nI (tp T i)) X hO dX2_rests_28 14 (by decide) (show i < 40 from (by omega)) (hT.2.2.2.2.1 _ (by omega)) ?_
    refine jn_icmp_ne 34 X dX2_rests_29 (by decide) (by omega) (by omega) (fun c29 => ?_) (fun c29 => ?_)
    · skip
      have hbi : tb T i < S 1 := hwi.1.resolve_right (by omega)
      have h0 := hW.rk (r := tb T i) (by omega)
      have h1 := hW.r1 (r := tb T i) (by omega)
      have h3 := hW.r3 (r := tb T i) (by omega)
      refine jv_aload_n X dX2_rests_34 2 rfl ?_
      refine jv_iload_n X dX2_rests_35 1 rfl ?_
      refine jv_iconst (v := nI 0) X dX2_rests_36 rfl ?_
      refine jv_ask (jv_runV (As := [.int (nI (tb T i)), .int (nI 0)]) (rest := []) X dX2_rests_37 (c_X2_ofRule hO hS (tb T i) 0 (by omega) (by omega)) (lw_V q2142 q2144 qs46 q100 q2145) hd_X2_ofRule md_M_o rfl (Nat.le_of_ble_eq_true rfl) (Nat.le_of_ble_eq_true rfl) (Nat.le_of_ble_eq_true rfl) (Nat.le_of_ble_eq_true rfl) rfl (Nat.le_of_ble_eq_true rfl)) ?_
      refine jv_istore (lv' := [(5, .int (nI (v_ofRule S (tb T i) 0))), (4, .int (nI (tp T k))), (3, .int (nI (tb T i))), (0, .ref o.2.1), (1, .int (nI i)), (2, .int (nI k))]) X dX2_rests_40 (by decide) rfl ?_
      refine jv_iload X dX2_rests_42 0 rfl ?_
      refine jv_iconst (v := nI 3) X dX2_rests_44 rfl ?_
      have j99_1 : ∀ w_2 : Bool, w_2 = (if (v_ofRule S (tb T i) 0) = 3 then (if (lsd S (tb T i) (tp T k)) = 0 then false else true) else (if (v_ofRule S (tb T i) 0) = 0 then false else (if (tp T k) = (v_ofRule S (tb T i) 1) then true else (if (tp T k) = (v_ofRule S (tb T i) 3) then true else false)))) → jv_J x G 6 Q_ (md_M G o F A) 0 0 99 [(5, .int (nI (v_ofRule S (tb T i) 0))), (4, .int (nI (tp T k))), (3, .int (nI (tb T i))), (0, .ref o.2.1), (1, .int (nI i)), (2, .int (nI k))] [.int (bI w_2)] := by
        intro w_2 e_w_2
        subst e_w_2
        exact jv_iret (v := bI (if (v_ofRule S (tb T i) 0) = 3 then (if (lsd S (tb T i) (tp T k)) = 0 then false else true) else (if (v_ofRule S (tb T i) 0) = 0 then false else (if (tp T k) = (v_ofRule S (tb T i) 1) then true else (if (tp T k) = (v_ofRule S (tb T i) 3) then true else false))))) X dX2_rests_99 (bI_nar _) hQ (Nat.le_of_ble_eq_true rfl) (Nat.le_of_ble_eq_true rfl) ⟨(congrArg bI (((if_neg (Nat.not_le.mpr c18)).trans (if_neg c29)).symm)), rfl⟩
      refine jn_icmp_ne 67 X dX2_rests_45 (by decide) (by omega) (by decide) (fun c45 => ?_) (fun c45 => ?_)
      · skip
        refine jv_iload X dX2_rests_67 0 rfl ?_
        refine jn_if_eq 98 X dX2_rests_69 (by decide) (by omega) (fun c69 => ?_) (fun c69 => ?_)
        · skip
          refine jv_iconst (v := nI 0) X dX2_rests_98 rfl ?_
          exact j99_1 _ ((if_neg c45).trans (if_pos c69)).symm
        · skip
          refine jv_iload X dX2_rests_72 1 rfl ?_
          refine jv_aload_n X dX2_rests_74 3 rfl ?_
          refine jv_iload_n X dX2_rests_75 2 rfl ?_
          refine jv_iconst (v := nI 1) X dX2_rests_76 rfl ?_
          refine jv_ask (jv_runV (As := [.int (nI (tb T i)), .int (nI 1)]) (rest := [.int (nI (tp T k))]) X dX2_rests_77 (c_X2_ofRule hO hS (tb T i) 1 (by omega) (by omega)) (lw_V q2142 q2144 qs46 q100 q2145) hd_X2_ofRule md_M_o rfl (Nat.le_of_ble_eq_true rfl) (Nat.le_of_ble_eq_true rfl) (Nat.le_of_ble_eq_true rfl) (Nat.le_of_ble_eq_true rfl) rfl (Nat.le_of_ble_eq_true rfl)) ?_
          refine jn_icmp_eq 94 X dX2_rests_80 (by decide) (by omega) (by omega) (fun c80 => ?_) (fun c80 => ?_)
          · skip
            refine jv_iconst (v := nI 1) X dX2_rests_94 rfl ?_
            refine jv_goto 99 X dX2_rests_95 (by decide) ?_
            exact j99_1 _ (((if_neg c45).trans (if_neg c69)).trans (if_pos c80)).symm
          · skip
            refine jv_iload X dX2_rests_83 1 rfl ?_
            refine jv_aload_n X dX2_rests_85 3 rfl ?_
            refine jv_iload_n X dX2_rests_86 2 rfl ?_
            refine jv_iconst (v := nI 3) X dX2_rests_87 rfl ?_
            refine jv_ask (jv_runV (As := [.int (nI (tb T i)), .int (nI 3)]) (rest := [.int (nI (tp T k))]) X dX2_rests_88 (c_X2_ofRule hO hS (tb T i) 3 (by omega) (by omega)) (lw_V q2142 q2144 qs46 q100 q2145) hd_X2_ofRule md_M_o rfl (Nat.le_of_ble_eq_true rfl) (Nat.le_of_ble_eq_true rfl) (Nat.le_of_ble_eq_true rfl) (Nat.le_of_ble_eq_true rfl) rfl (Nat.le_of_ble_eq_true rfl)) ?_
            refine jn_icmp_ne 98 X dX2_rests_91 (by decide) (by omega) (by omega) (fun c91 => ?_) (fun c91 => ?_)
            · skip
              refine jv_iconst (v := nI 0) X dX2_rests_98 rfl ?_
              exact j99_1 _ ((((if_neg c45).trans (if_neg c69)).trans (if_neg c80)).trans (if_neg c91)).symm
            · skip
              refine jv_iconst (v := nI 1) X dX2_rests_94 rfl ?_
              refine jv_goto 99 X dX2_rests_95 (by decide) ?_
              exact j99_1 _ ((((if_neg c45).trans (if_neg c69)).trans (if_neg c80)).trans (if_pos c91)).symm
      · skip
        have hls := lsd_lt S (tb T i) (tp T k)
        refine jv_aload_n X dX2_rests_48 3 rfl ?_
        refine jv_iload_n X dX2_rests_49 2 rfl ?_
        refine jv_iload X dX2_rests_50 1 rfl ?_
        refine jv_ask (jv_runV (As := [.int (nI (tb T i)), .int (nI (tp T k))]) (rest := []) X dX2_rests_52 (c_X2_learnedState hO hS (tb T i) (tp T k) (by omega) (by omega) hW) (lw_V q2209 q2211 qs55 q100 q2212) hd_X2_learnedState md_M_o rfl (Nat.le_of_ble_eq_true rfl) (Nat.le_of_ble_eq_true rfl) (Nat.le_of_ble_eq_true rfl) (Nat.le_of_ble_eq_true rfl) rfl (Nat.le_of_ble_eq_true rfl)) ?_
        refine jv_iconst (v := (-1)) X dX2_rests_55 rfl ?_
        refine jq_icmp_eq 63 X dX2_rests_56 (by decide) (by omega) (fun c56 => ?_) (fun c56 => ?_)
        · skip
          refine jv_iconst (v := nI 0) X dX2_rests_63 rfl ?_
          refine jv_goto 99 X dX2_rests_64 (by decide) ?_
          exact j99_1 _ ((if_pos c45).trans (if_pos c56)).symm
        · skip
          refine jv_iconst (v := nI 1) X dX2_rests_59 rfl ?_
          refine jv_goto 99 X dX2_rests_60 (by decide) ?_
          exact j99_1 _ ((if_pos c45).trans (if_neg c56)).symm
    · skip
      refine jv_iconst (v := nI 0) X dX2_rests_32 rfl ?_
      exact jv_iret (v := bI false) X dX2_rests_33 (bI_nar _) hQ (Nat.le_of_ble_eq_true rfl) (Nat.le_of_ble_eq_true rfl) ⟨(congrArg bI (((if_neg (Nat.not_le.mpr c18)).trans (if_pos c29)).symm)), rfl⟩
theorem hd_X2_proofOf : jv_dd yX2_proofOf 0 := by unfold jv_dd; decide +kernel
set_option maxHeartbeats 4000000 in
theorem c_X2_proofOf {l : Launch} {G : jv_G} {o : md_O} {F : Nat → Int32} {A : Nat → Nat → Int32} {S : Nat → Nat} (hO : md_K G o) (hS : ∀ j, j < 237 → A 0 j = nI (S j)) {T : t_T2} (hT : isT S F A T) (hk : okT T) (hwf : wfT S T)  (hWs : wfS S) : jv_Ct G l yX2_proofOf cX2_proofOf 6 (some .long) 3 0 0 71 [.ref o.2.1] (md_M G o F A) (jv_ql G (jv_pl (lN (prT S T)) (md_M G o F A))) := by
  refine jv_Ct.of (lv := [(0, .ref o.2.1)]) (by decide) (Nat.le_of_ble_eq_true rfl) rfl ?_
  intro x Q_ hl_ hQ X
  subst hl_
  have hW := hWs.1
  have hn36 : tn T ≤ 36 := by have := hk.1; omega
  have hS0 := hW.p
  have hrr := hW.r
  refine jv_lconst (v := lN 0) X dX2_proofOf_0 rfl ?_
  refine jv_lstore_n (lv' := [(1, .long (lN 0)), (0, .ref o.2.1)]) X dX2_proofOf_1 rfl (by decide) rfl ?_
  refine jv_aload_n X dX2_proofOf_2 1 rfl ?_
  refine jm_getF (v := nI (tn T)) X dX2_proofOf_3 16 (by decide) q2026 rfl hT.1 ?_
  refine jv_iconst (v := nI 1) X dX2_proofOf_6 rfl ?_
  refine jv_isub (w := nI (tn T) - nI 1) X dX2_proofOf_7 rfl ?_
  refine jv_istore_n (lv' := [(3, .int (nI (tn T) - nI 1)), (1, .long (lN 0)), (0, .ref o.2.1)]) X dX2_proofOf_8 rfl (by decide) rfl ?_
  have lp9_1 : ∀ (d_9 : Nat) (c : Nat) (m : Nat), c ≤ tn T → m = prN S T (tn T - c) → (tc T = 6 → m = 0) → c < d_9 → jv_J x G 6 Q_ (md_M G o F A) 0 0 9 [(0, .ref o.2.1), (1, .long (lN m)), (3, .int (nI c - nI 1))] [] := by
    intro d_9
    induction d_9 with
    | zero => intro c m hc hm h6 hm_9; exact absurd hm_9 (Nat.not_lt_zero _)
    | succ d_9 ih_9 =>
      intro c m hc hm h6 hm_9
      have hmlt : m < 2 ^ 36 := by rw [hm]; exact Nat.lt_of_lt_of_le (prN_lt S T _ (by omega)) (Nat.pow_le_pow_right (by decide) hn36)
      refine jv_iload_n X dX2_proofOf_9 2 rfl ?_
      refine jq_if_lt 115 X dX2_proofOf_10 (by decide) (by omega) (fun c10 => ?_) (fun c10 => ?_)
      · skip
        refine jv_lload_n X dX2_proofOf_115 1 rfl ?_
        exact jv_lret X dX2_proofOf_116 hQ (Nat.le_of_ble_eq_true rfl) (Nat.le_of_ble_eq_true rfl) ⟨(by unfold prT; split; (rw [h6 (by assumption)]); (rw [hm, c10, Nat.sub_zero])), rfl⟩
      · skip
        refine jv_to (lv' := [(0, .ref o.2.1), (1, .long (lN m)), (3, .int (nI (c - 1)))]) (st' := []) (by rw [pk_sub (show 1 ≤ c by omega)]) rfl ?_
        have hc0 : 1 ≤ c := by omega
        refine jv_aload_n X dX2_proofOf_13 0 rfl ?_
        refine jm_getF (v := cI (tc T)) X dX2_proofOf_14 17 (by decide) q2027 rfl hT.2.1 ?_
        refine jv_iconst (v := (-1)) X dX2_proofOf_17 rfl ?_
        refine jv_icmp_eq 115 X dX2_proofOf_18 (by decide) (fun c18 => ?_) (fun c18 => ?_)
        · skip
          refine jv_lload_n X dX2_proofOf_115 1 rfl ?_
          exact jv_lret X dX2_proofOf_116 hQ (Nat.le_of_ble_eq_true rfl) (Nat.le_of_ble_eq_true rfl) ⟨(by unfold prT; rw [if_pos ((cI_m1 hk.2.2).mp c18), h6 ((cI_m1 hk.2.2).mp c18)]), rfl⟩
        · skip
          have hc6 : ¬ tc T = 6 := fun z => c18 ((cI_m1 hk.2.2).mpr z)
          have hc7 := hk.2.2
          have hwc := (hwf (c - 1) (by omega)).2.1
          refine jv_aload_n X dX2_proofOf_21 0 rfl ?_
          refine jm_getA X dX2_proofOf_22 14 (by decide) q2024 rfl ?_
          refine jv_iload_n X dX2_proofOf_25 2 rfl ?_
          refine jm_ld (v := nI (tp T (c - 1))) X hO dX2_proofOf_26 14 (by decide) (show (c - 1) < 40 from (by omega)) (hT.2.2.2.2.1 _ (by omega)) ?_
          refine jv_aload_n X dX2_proofOf_27 0 rfl ?_
          refine jm_getF (v := nI (tc T)) X dX2_proofOf_28 17 (by decide) q2027 rfl (hT.2.1.trans (cI_lt (by omega))) ?_
          have j39_2 : ∀ wi : Bool, wi = (if (tp T (c - 1)) = (tc T) then true else false) → jv_J x G 6 Q_ (md_M G o F A) 0 0 39 [(0, .ref o.2.1), (1, .long (lN m)), (3, .int (nI (c - 1)))] [.int (bI wi)] := by
            intro wi e_wi
            refine jv_istore (lv' := [(4, .int (bI wi)), (0, .ref o.2.1), (1, .long (lN m)), (3, .int (nI (c - 1)))]) X dX2_proofOf_39 (by decide) rfl ?_
            refine jv_iload_n X dX2_proofOf_41 3 rfl ?_
            refine jv_iconst (v := nI 1) X dX2_proofOf_42 rfl ?_
            refine jv_iadd (w := nI ((c - 1) + 1)) X dX2_proofOf_43 (nI_add _ _) ?_
            refine jv_istore (lv' := [(5, .int (nI ((c - 1) + 1))), (4, .int (bI wi)), (0, .ref o.2.1), (1, .long (lN m)), (3, .int (nI (c - 1)))]) X dX2_proofOf_44 (by decide) rfl ?_
            have lp46_3 : ∀ (d_46 : Nat) (dd : Nat) (b : Bool), c - 1 + 1 + dd ≤ tn T → b = prI S T m (c - 1) dd → tn T - (c - 1 + 1 + dd) < d_46 → jv_J x G 6 Q_ (md_M G o F A) 0 0 46 [(0, .ref o.2.1), (1, .long (lN m)), (3, .int (nI (c - 1))), (4, .int (bI b)), (5, .int (nI (c - 1 + 1 + dd)))] [] := by
              intro d_46
              induction d_46 with
              | zero => intro dd b hd hb hm_46; exact absurd hm_46 (Nat.not_lt_zero _)
              | succ d_46 ih_46 =>
                intro dd b hd hb hm_46
                refine jv_iload X dX2_proofOf_46 4 rfl ?_
                refine jv_aload_n X dX2_proofOf_48 0 rfl ?_
                refine jm_getF (v := nI (tn T)) X dX2_proofOf_49 16 (by decide) q2026 rfl hT.1 ?_
                refine jn_icmp_ge 94 X dX2_proofOf_52 (by decide) (by omega) (by omega) (fun c52 => ?_) (fun c52 => ?_)
                · skip
                  refine jv_lload_n X dX2_proofOf_94 1 rfl ?_
                  refine jv_iload X dX2_proofOf_95 3 rfl ?_
                  have j107_4 : ∀ wl : Nat, wl = (if b = true then (2 ^ (c - 1)) else 0) → jv_J x G 6 Q_ (md_M G o F A) 0 0 107 [(0, .ref o.2.1), (1, .long (lN m)), (3, .int (nI (c - 1))), (4, .int (bI b)), (5, .int (nI (c - 1 + 1 + dd)))] [.long (lN wl), .long (lN m)] := by
                    intro wl e_wl
                    refine jv_lor (w := lN (m ||| wl)) X dX2_proofOf_107 (wb_or (by omega) (by rw [e_wl]; split; (exact Nat.lt_trans (Nat.pow_lt_pow_right (by decide) (show c - 1 < 40 by omega)) (by decide)); decide)) ?_
                    refine jv_lstore_n (lv' := [(1, .long (lN (m ||| wl))), (0, .ref o.2.1), (3, .int (nI (c - 1))), (4, .int (bI b)), (5, .int (nI (c - 1 + 1 + dd)))]) X dX2_proofOf_108 rfl (by decide) rfl ?_
                    refine jv_iinc (v := nI (c - 1) - nI 1) (lv' := [(3, .int (nI (c - 1) - nI 1)), (1, .long (lN (m ||| wl))), (0, .ref o.2.1), (4, .int (bI b)), (5, .int (nI (c - 1 + 1 + dd)))]) X dX2_proofOf_109 2 rfl (ni_dec _) (by decide) rfl ?_
                    refine jv_goto 9 X dX2_proofOf_112 (by decide) ?_
                    refine jv_lv (lv' := [(0, .ref o.2.1), (1, .long (lN (m ||| wl))), (3, .int (nI (c - 1) - nI 1))]) [2, 1, 0] rfl ?_
                    exact ih_9 (c - 1) (m ||| wl) (by omega) (by rw [show tn T - (c - 1) = (tn T - c) + 1 by omega, prN, ← hm, show tn T - 1 - (tn T - c) = c - 1 by omega, show tn T - c = dd by omega, ← hb, e_wl]) (fun z => absurd z hc6) (by omega)
                  refine jb_if_eq 106 X dX2_proofOf_97 (by decide) (fun c97 => ?_) (fun c97 => ?_)
                  · skip
                    refine jv_lconst (v := lN 0) X dX2_proofOf_106 rfl ?_
                    exact j107_4 _ (if_neg (Bool.eq_false_iff.mp c97)).symm
                  · skip
                    refine jv_lconst (v := lN 1) X dX2_proofOf_100 rfl ?_
                    refine jv_iload_n X dX2_proofOf_101 2 rfl ?_
                    refine jv_lshl (w := lN (2 ^ (c - 1))) X dX2_proofOf_102 (ln_shl1 (by omega)) ?_
                    refine jv_goto 107 X dX2_proofOf_103 (by decide) ?_
                    exact j107_4 _ (if_pos c97).symm
                · skip
                  refine jv_iload X dX2_proofOf_55 3 rfl ?_
                  have j86_5 : ∀ wj : Bool, wj = (if b = true then true else (if ((m / 2 ^ (c - 1 + 1 + dd)) % 2) = 1 then (if (v_rests S T (c - 1 + 1 + dd) (c - 1)) = true then true else false) else false)) → jv_J x G 6 Q_ (md_M G o F A) 0 0 86 [(0, .ref o.2.1), (1, .long (lN m)), (3, .int (nI (c - 1))), (4, .int (bI b)), (5, .int (nI (c - 1 + 1 + dd)))] [.int (bI wj)] := by
                    intro wj e_wj
                    refine jv_istore (lv' := [(4, .int (bI wj)), (0, .ref o.2.1), (1, .long (lN m)), (3, .int (nI (c - 1))), (5, .int (nI (c - 1 + 1 + dd)))]) X dX2_proofOf_86 (by decide) rfl ?_
                    refine jv_iinc (v := nI ((c - 1 + 1 + dd) + 1)) (lv' := [(5, .int (nI ((c - 1 + 1 + dd) + 1))), (4, .int (bI wj)), (0, .ref o.2.1), (1, .long (lN m)), (3, .int (nI (c - 1)))]) X dX2_proofOf_88 4 rfl (nI_1 _) (by decide) rfl ?_
                    refine jv_goto 46 X dX2_proofOf_91 (by decide) ?_
                    refine jv_lv (lv' := [(0, .ref o.2.1), (1, .long (lN m)), (3, .int (nI (c - 1))), (4, .int (bI wj)), (5, .int (nI ((c - 1 + 1 + dd) + 1)))]) [2, 3, 4, 1, 0] rfl ?_
                    exact ih_46 (dd + 1) wj (by omega) (by rw [prI, ← hb]; exact e_wj) (by omega)
                  refine jb_if_ne 81 X dX2_proofOf_57 (by decide) (fun c57 => ?_) (fun c57 => ?_)
                  · skip
                    refine jv_iconst (v := nI 1) X dX2_proofOf_81 rfl ?_
                    refine jv_goto 86 X dX2_proofOf_82 (by decide) ?_
                    exact j86_5 _ (if_pos c57).symm
                  · skip
                    refine jv_lload_n X dX2_proofOf_60 1 rfl ?_
                    refine jv_iload X dX2_proofOf_61 4 rfl ?_
                    refine jv_lshr (w := lN (m / 2 ^ (c - 1 + 1 + dd))) X dX2_proofOf_63 (ln_shr (by omega) (by omega)) ?_
                    refine jv_lconst (v := lN 1) X dX2_proofOf_64 rfl ?_
                    refine jv_land (w := lN ((m / 2 ^ (c - 1 + 1 + dd)) % 2)) X dX2_proofOf_65 (ln_and1 (Nat.lt_of_le_of_lt (Nat.div_le_self _ _) (by omega))) ?_
                    refine jv_lconst (v := lN 1) X dX2_proofOf_66 rfl ?_
                    refine jv_lcmp X dX2_proofOf_67 ?_
                    refine jc_if_ne 85 X dX2_proofOf_68 (by decide) (Nat.lt_trans (Nat.mod_lt _ (by decide)) (by decide)) (by decide) (fun c68 => ?_) (fun c68 => ?_)
                    · skip
                      refine jv_iconst (v := nI 0) X dX2_proofOf_85 rfl ?_
                      exact j86_5 _ ((if_neg (Bool.eq_false_iff.mp c57)).trans (if_neg c68)).symm
                    · skip
                      refine jv_aload_n X dX2_proofOf_71 0 rfl ?_
                      refine jv_iload X dX2_proofOf_72 4 rfl ?_
                      refine jv_iload_n X dX2_proofOf_74 2 rfl ?_
                      refine jv_ask (jv_runV (As := [.int (nI (c - 1 + 1 + dd)), .int (nI (c - 1))]) (rest := []) X dX2_proofOf_75 (c_X2_rests hO hS hT hk hwf (c - 1 + 1 + dd) (c - 1) (by omega) (by omega) hWs) (lw_V q2261 q2263 qs64 q100 q2264) hd_X2_rests md_M_o rfl (Nat.le_of_ble_eq_true rfl) (Nat.le_of_ble_eq_true rfl) (Nat.le_of_ble_eq_true rfl) (Nat.le_of_ble_eq_true rfl) rfl (Nat.le_of_ble_eq_true rfl)) ?_
                      refine jb_if_eq 85 X dX2_proofOf_78 (by decide) (fun c78 => ?_) (fun c78 => ?_)
                      · skip
                        refine jv_iconst (v := nI 0) X dX2_proofOf_85 rfl ?_
                        exact j86_5 _ (((if_neg (Bool.eq_false_iff.mp c57)).trans (if_pos c68)).trans (if_neg (Bool.eq_false_iff.mp c78))).symm
                      · skip
                        refine jv_iconst (v := nI 1) X dX2_proofOf_81 rfl ?_
                        refine jv_goto 86 X dX2_proofOf_82 (by decide) ?_
                        exact j86_5 _ (((if_neg (Bool.eq_false_iff.mp c57)).trans (if_pos c68)).trans (if_pos c78)).symm
            refine jv_lv (lv' := [(0, .ref o.2.1), (1, .long (lN m)), (3, .int (nI (c - 1))), (4, .int (bI wi)), (5, .int (nI ((c - 1) + 1)))]) [2, 3, 4, 1, 0] rfl ?_
            exact lp46_3 (tn T + 1) 0 wi (by omega) e_wi (by omega)
          refine jn_icmp_ne 38 X dX2_proofOf_31 (by decide) (by omega) (by omega) (fun c31 => ?_) (fun c31 => ?_)
          · skip
            refine jv_iconst (v := nI 0) X dX2_proofOf_38 rfl ?_
            exact j39_2 _ (if_neg c31).symm
          · skip
            refine jv_iconst (v := nI 1) X dX2_proofOf_34 rfl ?_
            refine jv_goto 39 X dX2_proofOf_35 (by decide) ?_
            exact j39_2 _ (if_pos c31).symm
  refine jv_lv (lv' := [(0, .ref o.2.1), (1, .long (lN 0)), (3, .int (nI (tn T) - nI 1))]) [2, 1, 0] rfl ?_
  exact lp9_1 (tn T + 1) (tn T) 0 (Nat.le_refl _) (by rw [Nat.sub_self]; rfl) (fun _ => rfl) (Nat.lt_succ_self _)
theorem hd_X2_count : jv_dd yX2_count 1 := by unfold jv_dd; decide +kernel
set_option maxHeartbeats 4000000 in
theorem c_X2_count {l : Launch} {G : jv_G} {M : jv_M} (m : Nat) (hm : m < 2 ^ 62) : jv_Ct G l yX2_count cX2_count 4 (some .int) 0 0 0 0 [.long (lN m)] M (jv_qi G (jv_pi (nI (cntN m 64)) M)) := by
  refine jv_Ct.of (lv := [(0, .long (lN m))]) (by decide) (Nat.le_of_ble_eq_true rfl) rfl ?_
  intro x Q_ hl_ hQ X
  subst hl_
  refine jv_iconst (v := nI 0) X dX2_count_0 rfl ?_
  refine jv_istore_n (lv' := [(2, .int (nI 0)), (0, .long (lN m))]) X dX2_count_1 rfl (by decide) rfl ?_
  refine jv_iconst (v := nI 0) X dX2_count_2 rfl ?_
  refine jv_istore_n (lv' := [(3, .int (nI 0)), (2, .int (nI 0)), (0, .long (lN m))]) X dX2_count_3 rfl (by decide) rfl ?_
  have lp4_1 : ∀ (d_4 : Nat) (q : Nat) (w : Nat), q ≤ 64 → w = cntN m q → 64 - q < d_4 → jv_J x G 4 Q_ M 0 0 4 [(0, .long (lN m)), (2, .int (nI w)), (3, .int (nI q))] [] := by
    intro d_4
    induction d_4 with
    | zero => intro q w hq hw hm_4; exact absurd hm_4 (Nat.not_lt_zero _)
    | succ d_4 ih_4 =>
      intro q w hq hw hm_4
      refine jv_iload_n X dX2_count_4 2 rfl ?_
      refine jv_bipush (v := nI 64) X dX2_count_5 rfl ?_
      refine jn_icmp_ge 25 X dX2_count_7 (by decide) (by omega) (by decide) (fun c7 => ?_) (fun c7 => ?_)
      · skip
        refine jv_iload_n X dX2_count_25 1 rfl ?_
        exact jv_iret (v := nI w) X dX2_count_26 rfl hQ (Nat.le_of_ble_eq_true rfl) (Nat.le_of_ble_eq_true rfl) ⟨(by rw [hw, show q = 64 by omega]), rfl⟩
      · skip
        refine jv_iload_n X dX2_count_10 1 rfl ?_
        refine jv_lload_n X dX2_count_11 0 rfl ?_
        refine jv_iload_n X dX2_count_12 2 rfl ?_
        refine jv_lshr (w := lN (m / 2 ^ q)) X dX2_count_13 (ln_shr hm (by omega)) ?_
        refine jv_lconst (v := lN 1) X dX2_count_14 rfl ?_
        refine jv_land (w := lN ((m / 2 ^ q) % 2)) X dX2_count_15 (ln_and1 (Nat.lt_of_le_of_lt (Nat.div_le_self _ _) (by omega))) ?_
        refine jv_l2i (w := nI ((m / 2 ^ q) % 2)) X dX2_count_16 (lN_i _) ?_
        refine jv_iadd (w := nI (w + ((m / 2 ^ q) % 2))) X dX2_count_17 (nI_add _ _) ?_
        refine jv_istore_n (lv' := [(2, .int (nI (w + ((m / 2 ^ q) % 2)))), (0, .long (lN m)), (3, .int (nI q))]) X dX2_count_18 rfl (by decide) rfl ?_
        refine jv_iinc (v := nI (q + 1)) (lv' := [(3, .int (nI (q + 1))), (2, .int (nI (w + ((m / 2 ^ q) % 2)))), (0, .long (lN m))]) X dX2_count_19 2 rfl (nI_1 _) (by decide) rfl ?_
        refine jv_goto 4 X dX2_count_22 (by decide) ?_
        refine jv_lv (lv' := [(0, .long (lN m)), (2, .int (nI (w + ((m / 2 ^ q) % 2)))), (3, .int (nI (q + 1)))]) [2, 1, 0] rfl ?_
        exact ih_4 (q + 1) (w + ((m / 2 ^ q) % 2)) (by omega) (by rw [hw]; rfl) (by omega)
  refine jv_lv (lv' := [(0, .long (lN m)), (2, .int (nI 0)), (3, .int (nI 0))]) [2, 1, 0] rfl ?_
  exact lp4_1 (64 + 1) 0 0 (Nat.zero_le _) rfl (by omega)
theorem hd_X2_restsOn : jv_dd yX2_restsOn 1 := by unfold jv_dd; decide +kernel
set_option maxHeartbeats 4000000 in
theorem c_X2_restsOn {l : Launch} {G : jv_G} {o : md_O} {F : Nat → Int32} {A : Nat → Nat → Int32} {S : Nat → Nat} (hO : md_K G o) (hS : ∀ j, j < 237 → A 0 j = nI (S j)) {T : t_T2} (hT : isT S F A T) (hk : okT T) (hwf : wfT S T) (i : Nat) (hi : i < tn T) (hWs : wfS S) : jv_Ct G l yX2_restsOn cX2_restsOn 4 (some .int) 3 0 0 71 [.ref o.2.1, .int (nI i)] (md_M G o F A) (jv_qi G (jv_pi (nI (roN S T i i)) (md_M G o F A))) := by
  refine jv_Ct.of (lv := [(0, .ref o.2.1), (1, .int (nI i))]) (by decide) (Nat.le_of_ble_eq_true rfl) rfl ?_
  intro x Q_ hl_ hQ X
  subst hl_
  have hW := hWs.1
  have hn36 : tn T ≤ 36 := by have := hk.1; omega
  have hS0 := hW.p
  have hrr := hW.r
  refine jv_iconst (v := nI 0) X dX2_restsOn_0 rfl ?_
  refine jv_istore_n (lv' := [(2, .int (nI 0)), (0, .ref o.2.1), (1, .int (nI i))]) X dX2_restsOn_1 rfl (by decide) rfl ?_
  refine jv_iconst (v := nI 0) X dX2_restsOn_2 rfl ?_
  refine jv_istore_n (lv' := [(3, .int (nI 0)), (2, .int (nI 0)), (0, .ref o.2.1), (1, .int (nI i))]) X dX2_restsOn_3 rfl (by decide) rfl ?_
  have lp4_1 : ∀ (d_4 : Nat) (q : Nat) (w : Nat), q ≤ i → w = roN S T i q → i - q < d_4 → jv_J x G 4 Q_ (md_M G o F A) 0 0 4 [(0, .ref o.2.1), (1, .int (nI i)), (2, .int (nI w)), (3, .int (nI q))] [] := by
    intro d_4
    induction d_4 with
    | zero => intro q w hq hw hm_4; exact absurd hm_4 (Nat.not_lt_zero _)
    | succ d_4 ih_4 =>
      intro q w hq hw hm_4
      refine jv_iload_n X dX2_restsOn_4 3 rfl ?_
      refine jv_iload_n X dX2_restsOn_5 1 rfl ?_
      refine jn_icmp_ge 32 X dX2_restsOn_6 (by decide) (by omega) (by omega) (fun c6 => ?_) (fun c6 => ?_)
      · skip
        refine jv_iload_n X dX2_restsOn_32 2 rfl ?_
        exact jv_iret (v := nI w) X dX2_restsOn_33 rfl hQ (Nat.le_of_ble_eq_true rfl) (Nat.le_of_ble_eq_true rfl) ⟨(by rw [hw, show q = i by omega]), rfl⟩
      · skip
        refine jv_iload_n X dX2_restsOn_9 2 rfl ?_
        refine jv_aload_n X dX2_restsOn_10 0 rfl ?_
        refine jv_iload_n X dX2_restsOn_11 1 rfl ?_
        refine jv_iload_n X dX2_restsOn_12 3 rfl ?_
        refine jv_ask (jv_runV (As := [.int (nI i), .int (nI q)]) (rest := [.int (nI w)]) X dX2_restsOn_13 (c_X2_rests hO hS hT hk hwf i q (by omega) (by omega) hWs) (lw_V q2261 q2263 qs64 q100 q2264) hd_X2_rests md_M_o rfl (Nat.le_of_ble_eq_true rfl) (Nat.le_of_ble_eq_true rfl) (Nat.le_of_ble_eq_true rfl) (Nat.le_of_ble_eq_true rfl) rfl (Nat.le_of_ble_eq_true rfl)) ?_
        have j24_2 : ∀ wx : Nat, wx = (if (v_rests S T i q) = true then 1 else 0) → jv_J x G 4 Q_ (md_M G o F A) 0 0 24 [(0, .ref o.2.1), (1, .int (nI i)), (2, .int (nI w)), (3, .int (nI q))] [.int (nI wx), .int (nI w)] := by
          intro wx e_wx
          refine jv_iadd (w := nI (w + wx)) X dX2_restsOn_24 (nI_add _ _) ?_
          refine jv_istore_n (lv' := [(2, .int (nI (w + wx))), (0, .ref o.2.1), (1, .int (nI i)), (3, .int (nI q))]) X dX2_restsOn_25 rfl (by decide) rfl ?_
          refine jv_iinc (v := nI (q + 1)) (lv' := [(3, .int (nI (q + 1))), (2, .int (nI (w + wx))), (0, .ref o.2.1), (1, .int (nI i))]) X dX2_restsOn_26 3 rfl (nI_1 _) (by decide) rfl ?_
          refine jv_goto 4 X dX2_restsOn_29 (by decide) ?_
          refine jv_lv (lv' := [(0, .ref o.2.1), (1, .int (nI i)), (2, .int (nI (w + wx))), (3, .int (nI (q + 1)))]) [2, 3, 1, 0] rfl ?_
          exact ih_4 (q + 1) (w + wx) (by omega) (by rw [hw, e_wx]; rfl) (by omega)
        refine jb_if_eq 23 X dX2_restsOn_16 (by decide) (fun c16 => ?_) (fun c16 => ?_)
        · skip
          refine jv_iconst (v := nI 0) X dX2_restsOn_23 rfl ?_
          exact j24_2 _ (if_neg (Bool.eq_false_iff.mp c16)).symm
        · skip
          refine jv_iconst (v := nI 1) X dX2_restsOn_19 rfl ?_
          refine jv_goto 24 X dX2_restsOn_20 (by decide) ?_
          exact j24_2 _ (if_pos c16).symm
  refine jv_lv (lv' := [(0, .ref o.2.1), (1, .int (nI i)), (2, .int (nI 0)), (3, .int (nI 0))]) [2, 3, 1, 0] rfl ?_
  exact lp4_1 (i + 1) 0 0 (Nat.zero_le _) rfl (by omega)
theorem hd_X2_states : jv_dd yX2_states 1 := by unfold jv_dd; decide +kernel
def m_states (S : Nat → Nat) (p : Int32) : Int32 :=
  (if (v_isPack S p) = true then (nI (tl (gA S) p.toNatClampNeg)) else (-1))
set_option maxHeartbeats 4000000 in
theorem c_X2_states {l : Launch} {G : jv_G} {o : md_O} {F : Nat → Int32} {A : Nat → Nat → Int32} {S : Nat → Nat} (hO : md_K G o) (hS : ∀ j, j < 237 → A 0 j = nI (S j)) (p : Int32) (hWs : wfS S) : jv_Ct G l yX2_states cX2_states 2 (some .int) 7 0 0 164 [.ref o.2.1, .int p] (md_M G o F A) (jv_qi G (fun r M' => r = m_states S p ∧ mT G o S F A (gA S) M')) := by
  refine jv_Ct.of (lv := [(0, .ref o.2.1), (1, .int p)]) (by decide) (Nat.le_of_ble_eq_true rfl) rfl ?_
  intro x Q_ hl_ hQ X
  subst hl_
  have hW := hWs.1
  have hS0 := hW.p
  have hok := okT.ga hW
  have hwf := wfT.ga hWs
  have hn36 : tn (gA S) ≤ 36 := by have := hok.1; omega
  refine jv_aload_n X dX2_states_0 0 rfl ?_
  refine jv_callv (jv_runV (As := []) (rest := []) X dX2_states_1 (c_X2_goesAll hO hS hWs) (lw_V q2221 q2223 qs56 q100 q2224) hd_X2_goesAll md_M_o rfl (Nat.le_of_ble_eq_true rfl) (Nat.le_of_ble_eq_true rfl) (Nat.le_of_ble_eq_true rfl) (Nat.le_of_ble_eq_true rfl) rfl (Nat.le_of_ble_eq_true rfl)) (fun M_ h_ => ?_)
  obtain ⟨F1, A1, rfl, hT1, hK1⟩ := h_
  have hS1 := hK1.S hS
  have hk1 := okT.ga hW
  skip
  refine jv_aload_n X dX2_states_4 0 rfl ?_
  refine jv_iload_n X dX2_states_5 1 rfl ?_
  refine jv_ask (jv_runV (As := [.int p]) (rest := []) X dX2_states_6 (c_X2_isPack hO hS1 p) (lw_V q2108 q2110 qs41 q100 q2111) hd_X2_isPack md_M_o rfl (Nat.le_of_ble_eq_true rfl) (Nat.le_of_ble_eq_true rfl) (Nat.le_of_ble_eq_true rfl) (Nat.le_of_ble_eq_true rfl) rfl (Nat.le_of_ble_eq_true rfl)) ?_
  refine jb_if_eq 21 X dX2_states_9 (by decide) (fun c9 => ?_) (fun c9 => ?_)
  · skip
    refine jv_iconst (v := (-1)) X dX2_states_21 rfl ?_
    exact jv_iret (v := (-1)) X dX2_states_22 rfl hQ (Nat.le_of_ble_eq_true rfl) (Nat.le_of_ble_eq_true rfl) ⟨(((if_neg (Bool.eq_false_iff.mp c9)).symm)), _, _, rfl, hT1, hK1⟩
  · skip
    have hq_p : nI (p.toNatClampNeg) = p := (v_isPack_n hW c9).2
    refine jv_to (lv' := [(0, .ref o.2.1), (1, .int (nI p.toNatClampNeg))]) (st' := []) (by rw [hq_p]) rfl ?_
    have hp0 := (v_isPack_n hW c9).1
    refine jv_aload_n X dX2_states_12 0 rfl ?_
    refine jm_getA X dX2_states_13 12 (by decide) q2022 rfl ?_
    refine jv_iload_n X dX2_states_16 1 rfl ?_
    refine jm_ld (v := nI (tl (gA S) p.toNatClampNeg)) X hO dX2_states_17 12 (by decide) (show p.toNatClampNeg < 6 from (by omega)) (hT1.2.2.1 _ (by omega)) ?_
    refine jv_goto 22 X dX2_states_18 (by decide) ?_
    exact jv_iret (v := nI (tl (gA S) p.toNatClampNeg)) X dX2_states_22 rfl hQ (Nat.le_of_ble_eq_true rfl) (Nat.le_of_ble_eq_true rfl) ⟨(((if_pos c9).symm)), _, _, rfl, hT1, hK1⟩
theorem hd_X2_steps : jv_dd yX2_steps 0 := by unfold jv_dd; decide +kernel
def m_steps (S : Nat → Nat) : Nat :=
  (tn (gA S))
set_option maxHeartbeats 4000000 in
theorem c_X2_steps {l : Launch} {G : jv_G} {o : md_O} {F : Nat → Int32} {A : Nat → Nat → Int32} {S : Nat → Nat} (hO : md_K G o) (hS : ∀ j, j < 237 → A 0 j = nI (S j))  (hWs : wfS S) : jv_Ct G l yX2_steps cX2_steps 1 (some .int) 7 0 0 164 [.ref o.2.1] (md_M G o F A) (jv_qi G (fun r M' => r = nI (m_steps S) ∧ mT G o S F A (gA S) M')) := by
  refine jv_Ct.of (lv := [(0, .ref o.2.1)]) (by decide) (Nat.le_of_ble_eq_true rfl) rfl ?_
  intro x Q_ hl_ hQ X
  subst hl_
  have hW := hWs.1
  have hS0 := hW.p
  have hok := okT.ga hW
  have hwf := wfT.ga hWs
  have hn36 : tn (gA S) ≤ 36 := by have := hok.1; omega
  refine jv_aload_n X dX2_steps_0 0 rfl ?_
  refine jv_callv (jv_runV (As := []) (rest := []) X dX2_steps_1 (c_X2_goesAll hO hS hWs) (lw_V q2221 q2223 qs56 q100 q2224) hd_X2_goesAll md_M_o rfl (Nat.le_of_ble_eq_true rfl) (Nat.le_of_ble_eq_true rfl) (Nat.le_of_ble_eq_true rfl) (Nat.le_of_ble_eq_true rfl) rfl (Nat.le_of_ble_eq_true rfl)) (fun M_ h_ => ?_)
  obtain ⟨F1, A1, rfl, hT1, hK1⟩ := h_
  have hS1 := hK1.S hS
  have hk1 := okT.ga hW
  skip
  refine jv_aload_n X dX2_steps_4 0 rfl ?_
  refine jm_getF (v := nI (tn (gA S))) X dX2_steps_5 16 (by decide) q2026 rfl hT1.1 ?_
  exact jv_iret (v := nI (tn (gA S))) X dX2_steps_8 rfl hQ (Nat.le_of_ble_eq_true rfl) (Nat.le_of_ble_eq_true rfl) ⟨rfl, _, _, rfl, hT1, hK1⟩
theorem hd_X2_step : jv_dd yX2_step 2 := by unfold jv_dd; decide +kernel
def m_step (S : Nat → Nat) (i what : Int32) : Int32 :=
  (if (v_in i (nI 0) ((nI (tn (gA S))) - (nI 1))) = true then (if what = nI 0 then (nI (tb (gA S) i.toNatClampNeg)) else (if what = nI 1 then (nI (tp (gA S) i.toNatClampNeg)) else (if what = nI 2 then (nI (tg (gA S) i.toNatClampNeg)) else (if what = nI 3 then (nI (roN S (gA S) i.toNatClampNeg i.toNatClampNeg)) else (-2))))) else (-1))
set_option maxHeartbeats 4000000 in
theorem c_X2_step {l : Launch} {G : jv_G} {o : md_O} {F : Nat → Int32} {A : Nat → Nat → Int32} {S : Nat → Nat} (hO : md_K G o) (hS : ∀ j, j < 237 → A 0 j = nI (S j)) (i : Int32) (what : Int32) (hWs : wfS S) : jv_Ct G l yX2_step cX2_step 3 (some .int) 7 0 0 164 [.ref o.2.1, .int i, .int what] (md_M G o F A) (jv_qi G (fun r M' => r = m_step S i what ∧ mT G o S F A (gA S) M')) := by
  refine jv_Ct.of (lv := [(0, .ref o.2.1), (1, .int i), (2, .int what)]) (by decide) (Nat.le_of_ble_eq_true rfl) rfl ?_
  intro x Q_ hl_ hQ X
  subst hl_
  have hW := hWs.1
  have hS0 := hW.p
  have hok := okT.ga hW
  have hwf := wfT.ga hWs
  have hn36 : tn (gA S) ≤ 36 := by have := hok.1; omega
  refine jv_aload_n X dX2_step_0 0 rfl ?_
  refine jv_callv (jv_runV (As := []) (rest := []) X dX2_step_1 (c_X2_goesAll hO hS hWs) (lw_V q2221 q2223 qs56 q100 q2224) hd_X2_goesAll md_M_o rfl (Nat.le_of_ble_eq_true rfl) (Nat.le_of_ble_eq_true rfl) (Nat.le_of_ble_eq_true rfl) (Nat.le_of_ble_eq_true rfl) rfl (Nat.le_of_ble_eq_true rfl)) (fun M_ h_ => ?_)
  obtain ⟨F1, A1, rfl, hT1, hK1⟩ := h_
  have hS1 := hK1.S hS
  have hk1 := okT.ga hW
  skip
  refine jv_iload_n X dX2_step_4 1 rfl ?_
  refine jv_iconst (v := nI 0) X dX2_step_5 rfl ?_
  refine jv_aload_n X dX2_step_6 0 rfl ?_
  refine jm_getF (v := nI (tn (gA S))) X dX2_step_7 16 (by decide) q2026 rfl hT1.1 ?_
  refine jv_iconst (v := nI 1) X dX2_step_10 rfl ?_
  refine jv_isub (w := (nI (tn (gA S))) - (nI 1)) X dX2_step_11 rfl ?_
  refine jv_ask (jv_runS (As := [.int i, .int (nI 0), .int ((nI (tn (gA S))) - (nI 1))]) (rest := []) X dX2_step_12 (c_X2_in i (nI 0) ((nI (tn (gA S))) - (nI 1))) (lw_S q2112 q2113 q100 q2114) hd_X2_in (Nat.le_of_ble_eq_true rfl) (Nat.le_of_ble_eq_true rfl) (Nat.le_of_ble_eq_true rfl) (Nat.le_of_ble_eq_true rfl) rfl (Nat.le_of_ble_eq_true rfl)) ?_
  refine jb_if_ne 20 X dX2_step_15 (by decide) (fun c15 => ?_) (fun c15 => ?_)
  · skip
    have hq_i : nI (i.toNatClampNeg) = i := (v_in_up (by omega) c15).2
    refine jv_to (lv' := [(0, .ref o.2.1), (1, .int (nI i.toNatClampNeg)), (2, .int what)]) (st' := []) (by rw [hq_i]) rfl ?_
    have hi0 := (v_in_up (by omega) c15).1
    refine jv_iload_n X dX2_step_20 2 rfl ?_
    by_cases c21_0 : what = nI 0
    · skip
      refine jv_tableIn 52 X dX2_step_21 (by rw [c21_0]; decide) (by rw [c21_0]; decide) (by rw [c21_0]; rfl) (by decide) ?_
      subst c21_0
      refine jv_aload_n X dX2_step_52 0 rfl ?_
      refine jm_getA X dX2_step_53 13 (by decide) q2023 rfl ?_
      refine jv_iload_n X dX2_step_56 1 rfl ?_
      refine jm_ld (v := nI (tb (gA S) i.toNatClampNeg)) X hO dX2_step_57 13 (by decide) (show i.toNatClampNeg < 40 from (by omega)) (hT1.2.2.2.1 _ (by omega)) ?_
      exact jv_iret (v := nI (tb (gA S) i.toNatClampNeg)) X dX2_step_58 rfl hQ (Nat.le_of_ble_eq_true rfl) (Nat.le_of_ble_eq_true rfl) ⟨((((if_pos c15).trans (if_pos rfl)).symm)), _, _, rfl, hT1, hK1⟩
    · skip
      by_cases c21_1 : what = nI 1
      · skip
        refine jv_tableIn 59 X dX2_step_21 (by rw [c21_1]; decide) (by rw [c21_1]; decide) (by rw [c21_1]; rfl) (by decide) ?_
        subst c21_1
        refine jv_aload_n X dX2_step_59 0 rfl ?_
        refine jm_getA X dX2_step_60 14 (by decide) q2024 rfl ?_
        refine jv_iload_n X dX2_step_63 1 rfl ?_
        refine jm_ld (v := nI (tp (gA S) i.toNatClampNeg)) X hO dX2_step_64 14 (by decide) (show i.toNatClampNeg < 40 from (by omega)) (hT1.2.2.2.2.1 _ (by omega)) ?_
        exact jv_iret (v := nI (tp (gA S) i.toNatClampNeg)) X dX2_step_65 rfl hQ (Nat.le_of_ble_eq_true rfl) (Nat.le_of_ble_eq_true rfl) ⟨(((((if_pos c15).trans (if_neg c21_0)).trans (if_pos rfl)).symm)), _, _, rfl, hT1, hK1⟩
      · skip
        by_cases c21_2 : what = nI 2
        · skip
          refine jv_tableIn 66 X dX2_step_21 (by rw [c21_2]; decide) (by rw [c21_2]; decide) (by rw [c21_2]; rfl) (by decide) ?_
          subst c21_2
          refine jv_aload_n X dX2_step_66 0 rfl ?_
          refine jm_getA X dX2_step_67 15 (by decide) q2025 rfl ?_
          refine jv_iload_n X dX2_step_70 1 rfl ?_
          refine jm_ld (v := nI (tg (gA S) i.toNatClampNeg)) X hO dX2_step_71 15 (by decide) (show i.toNatClampNeg < 40 from (by omega)) (hT1.2.2.2.2.2 _ (by omega)) ?_
          exact jv_iret (v := nI (tg (gA S) i.toNatClampNeg)) X dX2_step_72 rfl hQ (Nat.le_of_ble_eq_true rfl) (Nat.le_of_ble_eq_true rfl) ⟨((((((if_pos c15).trans (if_neg c21_0)).trans (if_neg c21_1)).trans (if_pos rfl)).symm)), _, _, rfl, hT1, hK1⟩
        · skip
          by_cases c21_3 : what = nI 3
          · skip
            refine jv_tableIn 73 X dX2_step_21 (by rw [c21_3]; decide) (by rw [c21_3]; decide) (by rw [c21_3]; rfl) (by decide) ?_
            subst c21_3
            refine jv_aload_n X dX2_step_73 0 rfl ?_
            refine jv_iload_n X dX2_step_74 1 rfl ?_
            refine jv_ask (jv_runV (As := [.int (nI i.toNatClampNeg)]) (rest := []) X dX2_step_75 (c_X2_restsOn hO hS1 hT1 hk1 hwf i.toNatClampNeg (by omega) hWs) (lw_V q2257 q2259 qs63 q100 q2260) hd_X2_restsOn md_M_o rfl (Nat.le_of_ble_eq_true rfl) (Nat.le_of_ble_eq_true rfl) (Nat.le_of_ble_eq_true rfl) (Nat.le_of_ble_eq_true rfl) rfl (Nat.le_of_ble_eq_true rfl)) ?_
            exact jv_iret (v := nI (roN S (gA S) i.toNatClampNeg i.toNatClampNeg)) X dX2_step_78 rfl hQ (Nat.le_of_ble_eq_true rfl) (Nat.le_of_ble_eq_true rfl) ⟨(((((((if_pos c15).trans (if_neg c21_0)).trans (if_neg c21_1)).trans (if_neg c21_2)).trans (if_pos rfl)).symm)), _, _, rfl, hT1, hK1⟩
          · skip
            refine jv_tableOut 79 X dX2_step_21 (jt_out4 c21_0 c21_1 c21_2 c21_3) (by decide) ?_
            refine jv_bipush (v := (-2)) X dX2_step_79 rfl ?_
            exact jv_iret (v := (-2)) X dX2_step_81 rfl hQ (Nat.le_of_ble_eq_true rfl) (Nat.le_of_ble_eq_true rfl) ⟨(((((((if_pos c15).trans (if_neg c21_0)).trans (if_neg c21_1)).trans (if_neg c21_2)).trans (if_neg c21_3)).symm)), _, _, rfl, hT1, hK1⟩
  · skip
    refine jv_iconst (v := (-1)) X dX2_step_18 rfl ?_
    exact jv_iret (v := (-1)) X dX2_step_19 rfl hQ (Nat.le_of_ble_eq_true rfl) (Nat.le_of_ble_eq_true rfl) ⟨(((if_neg (Bool.eq_false_iff.mp c15)).symm)), _, _, rfl, hT1, hK1⟩
def m_cause (S : Nat → Nat) (p v : Int32) : Int32 := if v_isPack S p = true then (if v_isState S p v = true then cauN (gA S) p.toNatClampNeg v (tn (gA S)) 0 else (-2)) else (-1)
theorem hd_X2_cause : jv_dd yX2_cause 2 := by unfold jv_dd; decide +kernel
set_option maxHeartbeats 4000000 in
theorem c_X2_cause {l : Launch} {G : jv_G} {o : md_O} {F : Nat → Int32} {A : Nat → Nat → Int32} {S : Nat → Nat} (hO : md_K G o) (hS : ∀ j, j < 237 → A 0 j = nI (S j)) (p : Int32) (v : Int32) (hWs : wfS S) : jv_Ct G l yX2_cause cX2_cause 4 (some .int) 7 0 0 164 [.ref o.2.1, .int p, .int v] (md_M G o F A) (jv_qi G (fun r M' => r = m_cause S p v ∧ mT G o S F A (gA S) M')) := by
  refine jv_Ct.of (lv := [(0, .ref o.2.1), (1, .int p), (2, .int v)]) (by decide) (Nat.le_of_ble_eq_true rfl) rfl ?_
  intro x Q_ hl_ hQ X
  subst hl_
  have hW := hWs.1
  have hS0 := hW.p
  have hok := okT.ga hW
  have hwf := wfT.ga hWs
  have hn36 : tn (gA S) ≤ 36 := by have := hok.1; omega
  refine jv_aload_n X dX2_cause_0 0 rfl ?_
  refine jv_callv (jv_runV (As := []) (rest := []) X dX2_cause_1 (c_X2_goesAll hO hS hWs) (lw_V q2221 q2223 qs56 q100 q2224) hd_X2_goesAll md_M_o rfl (Nat.le_of_ble_eq_true rfl) (Nat.le_of_ble_eq_true rfl) (Nat.le_of_ble_eq_true rfl) (Nat.le_of_ble_eq_true rfl) rfl (Nat.le_of_ble_eq_true rfl)) (fun M_ h_ => ?_)
  obtain ⟨F1, A1, rfl, hT1, hK1⟩ := h_
  have hS1 := hK1.S hS
  have hk1 := okT.ga hW
  skip
  refine jv_aload_n X dX2_cause_4 0 rfl ?_
  refine jv_iload_n X dX2_cause_5 1 rfl ?_
  refine jv_ask (jv_runV (As := [.int p]) (rest := []) X dX2_cause_6 (c_X2_isPack hO hS1 p) (lw_V q2108 q2110 qs41 q100 q2111) hd_X2_isPack md_M_o rfl (Nat.le_of_ble_eq_true rfl) (Nat.le_of_ble_eq_true rfl) (Nat.le_of_ble_eq_true rfl) (Nat.le_of_ble_eq_true rfl) rfl (Nat.le_of_ble_eq_true rfl)) ?_
  refine jb_if_ne 14 X dX2_cause_9 (by decide) (fun c9 => ?_) (fun c9 => ?_)
  · skip
    refine jv_aload_n X dX2_cause_14 0 rfl ?_
    refine jv_iload_n X dX2_cause_15 1 rfl ?_
    refine jv_iload_n X dX2_cause_16 2 rfl ?_
    refine jv_ask (jv_runV (As := [.int p, .int v]) (rest := []) X dX2_cause_17 (c_X2_isState hO hS1 p v hW) (lw_V q2269 q2271 qs65 q100 q2272) hd_X2_isState md_M_o rfl (Nat.le_of_ble_eq_true rfl) (Nat.le_of_ble_eq_true rfl) (Nat.le_of_ble_eq_true rfl) (Nat.le_of_ble_eq_true rfl) rfl (Nat.le_of_ble_eq_true rfl)) ?_
    refine jb_if_ne 26 X dX2_cause_20 (by decide) (fun c20 => ?_) (fun c20 => ?_)
    · skip
      have hq_p : nI (p.toNatClampNeg) = p := (v_isPack_n hW c9).2
      refine jv_to (lv' := [(0, .ref o.2.1), (1, .int (nI p.toNatClampNeg)), (2, .int v)]) (st' := []) (by rw [hq_p]) rfl ?_
      have hp0 := (v_isPack_n hW c9).1
      refine jv_iconst (v := nI 0) X dX2_cause_26 rfl ?_
      refine jv_istore_n (lv' := [(3, .int (nI 0)), (0, .ref o.2.1), (1, .int (nI p.toNatClampNeg)), (2, .int v)]) X dX2_cause_27 rfl (by decide) rfl ?_
      have lp28_2 : ∀ (d_28 : Nat) (k : Nat), k ≤ tn (gA S) → cauN (gA S) p.toNatClampNeg v (tn (gA S) - k) k = cauN (gA S) p.toNatClampNeg v (tn (gA S)) 0 → tn (gA S) - k < d_28 → jv_J x G 4 Q_ (md_M G o F1 A1) 0 0 28 [(0, .ref o.2.1), (1, .int (nI p.toNatClampNeg)), (2, .int v), (3, .int (nI k))] [] := by
        intro d_28
        induction d_28 with
        | zero => intro k hkk hf hm_28; exact absurd hm_28 (Nat.not_lt_zero _)
        | succ d_28 ih_28 =>
          intro k hkk hf hm_28
          refine jv_iload_n X dX2_cause_28 3 rfl ?_
          refine jv_aload_n X dX2_cause_29 0 rfl ?_
          refine jm_getF (v := nI (tn (gA S))) X dX2_cause_30 16 (by decide) q2026 rfl hT1.1 ?_
          refine jn_icmp_ge 68 X dX2_cause_33 (by decide) (by omega) (by omega) (fun c33 => ?_) (fun c33 => ?_)
          · skip
            refine jv_bipush (v := (-5)) X dX2_cause_68 rfl ?_
            exact jv_iret (v := (-5)) X dX2_cause_70 rfl hQ (Nat.le_of_ble_eq_true rfl) (Nat.le_of_ble_eq_true rfl) ⟨(by unfold m_cause; rw [if_pos c9, if_pos c20, ← hf, show tn (gA S) - k = 0 by omega]; rfl), _, _, rfl, hT1, hK1⟩
          · skip
            have hwk := (hwf k (by omega)).2
            refine jv_aload_n X dX2_cause_36 0 rfl ?_
            refine jm_getA X dX2_cause_37 14 (by decide) q2024 rfl ?_
            refine jv_iload_n X dX2_cause_40 3 rfl ?_
            refine jm_ld (v := nI (tp (gA S) k)) X hO dX2_cause_41 14 (by decide) (show k < 40 from (by omega)) (hT1.2.2.2.2.1 _ (by omega)) ?_
            refine jv_iload_n X dX2_cause_42 1 rfl ?_
            refine jn_icmp_ne 62 X dX2_cause_43 (by decide) (by omega) (by omega) (fun c43 => ?_) (fun c43 => ?_)
            · skip
              refine jv_iinc (v := nI (k + 1)) (lv' := [(3, .int (nI (k + 1))), (0, .ref o.2.1), (1, .int (nI p.toNatClampNeg)), (2, .int v)]) X dX2_cause_62 3 rfl (nI_1 _) (by decide) rfl ?_
              refine jv_goto 28 X dX2_cause_65 (by decide) ?_
              refine jv_lv (lv' := [(0, .ref o.2.1), (1, .int (nI p.toNatClampNeg)), (2, .int v), (3, .int (nI (k + 1)))]) [1, 2, 3, 0] rfl ?_
              exact ih_28 (k + 1) (by omega) (by rw [← hf, show tn (gA S) - k = (tn (gA S) - (k + 1)) + 1 by omega, cauN, if_neg c43]) (by omega)
            · skip
              refine jv_aload_n X dX2_cause_46 0 rfl ?_
              refine jm_getA X dX2_cause_47 15 (by decide) q2025 rfl ?_
              refine jv_iload_n X dX2_cause_50 3 rfl ?_
              refine jm_ld (v := nI (tg (gA S) k)) X hO dX2_cause_51 15 (by decide) (show k < 40 from (by omega)) (hT1.2.2.2.2.2 _ (by omega)) ?_
              refine jv_iload_n X dX2_cause_52 2 rfl ?_
              refine jv_ishr (w := (nI (tg (gA S) k)) >>> (v &&& 31)) X dX2_cause_53 rfl ?_
              refine jv_iconst (v := nI 1) X dX2_cause_54 rfl ?_
              refine jv_iand (w := ((nI (tg (gA S) k)) >>> (v &&& 31)) &&& (nI 1)) X dX2_cause_55 rfl ?_
              refine jv_iconst (v := nI 1) X dX2_cause_56 rfl ?_
              refine jv_icmp_ne 62 X dX2_cause_57 (by decide) (fun c57 => ?_) (fun c57 => ?_)
              · skip
                refine jv_iinc (v := nI (k + 1)) (lv' := [(3, .int (nI (k + 1))), (0, .ref o.2.1), (1, .int (nI p.toNatClampNeg)), (2, .int v)]) X dX2_cause_62 3 rfl (nI_1 _) (by decide) rfl ?_
                refine jv_goto 28 X dX2_cause_65 (by decide) ?_
                refine jv_lv (lv' := [(0, .ref o.2.1), (1, .int (nI p.toNatClampNeg)), (2, .int v), (3, .int (nI (k + 1)))]) [1, 2, 3, 0] rfl ?_
                exact ih_28 (k + 1) (by omega) (by rw [← hf, show tn (gA S) - k = (tn (gA S) - (k + 1)) + 1 by omega, cauN, if_pos c43, if_neg c57]) (by omega)
              · skip
                refine jv_iload_n X dX2_cause_60 3 rfl ?_
                exact jv_iret (v := nI k) X dX2_cause_61 rfl hQ (Nat.le_of_ble_eq_true rfl) (Nat.le_of_ble_eq_true rfl) ⟨(by unfold m_cause; rw [if_pos c9, if_pos c20, ← hf, show tn (gA S) - k = (tn (gA S) - k - 1) + 1 by omega, cauN, if_pos c43, if_pos c57]), _, _, rfl, hT1, hK1⟩
      refine jv_lv (lv' := [(0, .ref o.2.1), (1, .int (nI p.toNatClampNeg)), (2, .int v), (3, .int (nI 0))]) [1, 2, 3, 0] rfl ?_
      exact lp28_2 (tn (gA S) + 1) 0 (Nat.zero_le _) rfl (by omega)
    · skip
      refine jv_bipush (v := (-2)) X dX2_cause_23 rfl ?_
      exact jv_iret (v := (-2)) X dX2_cause_25 rfl hQ (Nat.le_of_ble_eq_true rfl) (Nat.le_of_ble_eq_true rfl) ⟨(by unfold m_cause; rw [if_pos c9, if_neg (Bool.eq_false_iff.mp c20)]), _, _, rfl, hT1, hK1⟩
  · skip
    refine jv_iconst (v := (-1)) X dX2_cause_12 rfl ?_
    exact jv_iret (v := (-1)) X dX2_cause_13 rfl hQ (Nat.le_of_ble_eq_true rfl) (Nat.le_of_ble_eq_true rfl) ⟨(by unfold m_cause; rw [if_neg (Bool.eq_false_iff.mp c9)]), _, _, rfl, hT1, hK1⟩
theorem hd_X2_conflict : jv_dd yX2_conflict 0 := by unfold jv_dd; decide +kernel
def m_conflict (S : Nat → Nat) : Int32 :=
  (if (cI (tc (gA S))) = (-1) then (-5) else (cI (tc (gA S))))
set_option maxHeartbeats 4000000 in
theorem c_X2_conflict {l : Launch} {G : jv_G} {o : md_O} {F : Nat → Int32} {A : Nat → Nat → Int32} {S : Nat → Nat} (hO : md_K G o) (hS : ∀ j, j < 237 → A 0 j = nI (S j))  (hWs : wfS S) : jv_Ct G l yX2_conflict cX2_conflict 1 (some .int) 7 0 0 164 [.ref o.2.1] (md_M G o F A) (jv_qi G (fun r M' => r = m_conflict S ∧ mT G o S F A (gA S) M')) := by
  refine jv_Ct.of (lv := [(0, .ref o.2.1)]) (by decide) (Nat.le_of_ble_eq_true rfl) rfl ?_
  intro x Q_ hl_ hQ X
  subst hl_
  have hW := hWs.1
  have hS0 := hW.p
  have hok := okT.ga hW
  have hwf := wfT.ga hWs
  have hn36 : tn (gA S) ≤ 36 := by have := hok.1; omega
  refine jv_aload_n X dX2_conflict_0 0 rfl ?_
  refine jv_callv (jv_runV (As := []) (rest := []) X dX2_conflict_1 (c_X2_goesAll hO hS hWs) (lw_V q2221 q2223 qs56 q100 q2224) hd_X2_goesAll md_M_o rfl (Nat.le_of_ble_eq_true rfl) (Nat.le_of_ble_eq_true rfl) (Nat.le_of_ble_eq_true rfl) (Nat.le_of_ble_eq_true rfl) rfl (Nat.le_of_ble_eq_true rfl)) (fun M_ h_ => ?_)
  obtain ⟨F1, A1, rfl, hT1, hK1⟩ := h_
  have hS1 := hK1.S hS
  have hk1 := okT.ga hW
  skip
  refine jv_aload_n X dX2_conflict_4 0 rfl ?_
  refine jm_getF (v := cI (tc (gA S))) X dX2_conflict_5 17 (by decide) q2027 rfl hT1.2.1 ?_
  refine jv_iconst (v := (-1)) X dX2_conflict_8 rfl ?_
  refine jv_icmp_ne 17 X dX2_conflict_9 (by decide) (fun c9 => ?_) (fun c9 => ?_)
  · skip
    refine jv_aload_n X dX2_conflict_17 0 rfl ?_
    refine jm_getF (v := cI (tc (gA S))) X dX2_conflict_18 17 (by decide) q2027 rfl hT1.2.1 ?_
    exact jv_iret (v := cI (tc (gA S))) X dX2_conflict_21 rfl hQ (Nat.le_of_ble_eq_true rfl) (Nat.le_of_ble_eq_true rfl) ⟨(((if_neg c9).symm)), _, _, rfl, hT1, hK1⟩
  · skip
    refine jv_bipush (v := (-5)) X dX2_conflict_12 rfl ?_
    refine jv_goto 21 X dX2_conflict_14 (by decide) ?_
    exact jv_iret (v := (-5)) X dX2_conflict_21 rfl hQ (Nat.le_of_ble_eq_true rfl) (Nat.le_of_ble_eq_true rfl) ⟨(((if_pos c9).symm)), _, _, rfl, hT1, hK1⟩
theorem hd_X2_proof : jv_dd yX2_proof 0 := by unfold jv_dd; decide +kernel
def m_proof (S : Nat → Nat) : Nat :=
  (prT S (gA S))
set_option maxHeartbeats 4000000 in
theorem c_X2_proof {l : Launch} {G : jv_G} {o : md_O} {F : Nat → Int32} {A : Nat → Nat → Int32} {S : Nat → Nat} (hO : md_K G o) (hS : ∀ j, j < 237 → A 0 j = nI (S j))  (hWs : wfS S) : jv_Ct G l yX2_proof cX2_proof 1 (some .long) 7 0 0 164 [.ref o.2.1] (md_M G o F A) (jv_ql G (fun r M' => r = lN (m_proof S) ∧ mT G o S F A (gA S) M')) := by
  refine jv_Ct.of (lv := [(0, .ref o.2.1)]) (by decide) (Nat.le_of_ble_eq_true rfl) rfl ?_
  intro x Q_ hl_ hQ X
  subst hl_
  have hW := hWs.1
  have hS0 := hW.p
  have hok := okT.ga hW
  have hwf := wfT.ga hWs
  have hn36 : tn (gA S) ≤ 36 := by have := hok.1; omega
  refine jv_aload_n X dX2_proof_0 0 rfl ?_
  refine jv_callv (jv_runV (As := []) (rest := []) X dX2_proof_1 (c_X2_goesAll hO hS hWs) (lw_V q2221 q2223 qs56 q100 q2224) hd_X2_goesAll md_M_o rfl (Nat.le_of_ble_eq_true rfl) (Nat.le_of_ble_eq_true rfl) (Nat.le_of_ble_eq_true rfl) (Nat.le_of_ble_eq_true rfl) rfl (Nat.le_of_ble_eq_true rfl)) (fun M_ h_ => ?_)
  obtain ⟨F1, A1, rfl, hT1, hK1⟩ := h_
  have hS1 := hK1.S hS
  have hk1 := okT.ga hW
  skip
  refine jv_aload_n X dX2_proof_4 0 rfl ?_
  refine jv_askl (jv_runV (As := []) (rest := []) X dX2_proof_5 (c_X2_proofOf hO hS1 hT1 hk1 hwf hWs) (lw_V q2281 q2283 qs66 q100 q2284) hd_X2_proofOf md_M_o rfl (Nat.le_of_ble_eq_true rfl) (Nat.le_of_ble_eq_true rfl) (Nat.le_of_ble_eq_true rfl) (Nat.le_of_ble_eq_true rfl) rfl (Nat.le_of_ble_eq_true rfl)) ?_
  exact jv_lret X dX2_proof_8 hQ (Nat.le_of_ble_eq_true rfl) (Nat.le_of_ble_eq_true rfl) ⟨rfl, _, _, rfl, hT1, hK1⟩
theorem hd_X2_isProved : jv_dd yX2_isProved 0 := by unfold jv_dd; decide +kernel
def m_isProved (S : Nat → Nat) : Bool :=
  (if (cI (tc (gA S))) = (-1) then false else true)
set_option maxHeartbeats 4000000 in
theorem c_X2_isProved {l : Launch} {G : jv_G} {o : md_O} {F : Nat → Int32} {A : Nat → Nat → Int32} {S : Nat → Nat} (hO : md_K G o) (hS : ∀ j, j < 237 → A 0 j = nI (S j))  (hWs : wfS S) : jv_Ct G l yX2_isProved cX2_isProved 1 (some .boolean) 7 0 0 164 [.ref o.2.1] (md_M G o F A) (jv_qi G (fun r M' => r = bI (m_isProved S) ∧ mT G o S F A (gA S) M')) := by
  refine jv_Ct.of (lv := [(0, .ref o.2.1)]) (by decide) (Nat.le_of_ble_eq_true rfl) rfl ?_
  intro x Q_ hl_ hQ X
  subst hl_
  have hW := hWs.1
  have hS0 := hW.p
  have hok := okT.ga hW
  have hwf := wfT.ga hWs
  have hn36 : tn (gA S) ≤ 36 := by have := hok.1; omega
  refine jv_aload_n X dX2_isProved_0 0 rfl ?_
  refine jv_callv (jv_runV (As := []) (rest := []) X dX2_isProved_1 (c_X2_goesAll hO hS hWs) (lw_V q2221 q2223 qs56 q100 q2224) hd_X2_goesAll md_M_o rfl (Nat.le_of_ble_eq_true rfl) (Nat.le_of_ble_eq_true rfl) (Nat.le_of_ble_eq_true rfl) (Nat.le_of_ble_eq_true rfl) rfl (Nat.le_of_ble_eq_true rfl)) (fun M_ h_ => ?_)
  obtain ⟨F1, A1, rfl, hT1, hK1⟩ := h_
  have hS1 := hK1.S hS
  have hk1 := okT.ga hW
  skip
  refine jv_aload_n X dX2_isProved_4 0 rfl ?_
  refine jm_getF (v := cI (tc (gA S))) X dX2_isProved_5 17 (by decide) q2027 rfl hT1.2.1 ?_
  refine jv_iconst (v := (-1)) X dX2_isProved_8 rfl ?_
  have j17_2 : ∀ w_3 : Bool, w_3 = (if (cI (tc (gA S))) = (-1) then false else true) → jv_J x G 1 Q_ (md_M G o F1 A1) 0 0 17 [(0, .ref o.2.1)] [.int (bI w_3)] := by
    intro w_3 e_w_3
    subst e_w_3
    exact jv_iret (v := bI (if (cI (tc (gA S))) = (-1) then false else true)) X dX2_isProved_17 (bI_nar _) hQ (Nat.le_of_ble_eq_true rfl) (Nat.le_of_ble_eq_true rfl) ⟨rfl, _, _, rfl, hT1, hK1⟩
  refine jv_icmp_eq 16 X dX2_isProved_9 (by decide) (fun c9 => ?_) (fun c9 => ?_)
  · skip
    refine jv_iconst (v := nI 0) X dX2_isProved_16 rfl ?_
    exact j17_2 _ (if_pos c9).symm
  · skip
    refine jv_iconst (v := nI 1) X dX2_isProved_12 rfl ?_
    refine jv_goto 17 X dX2_isProved_13 (by decide) ?_
    exact j17_2 _ (if_neg c9).symm
theorem hd_X2_sumOf : jv_dd yX2_sumOf 1 := by unfold jv_dd; decide +kernel
set_option maxHeartbeats 4000000 in
theorem c_X2_sumOf {l : Launch} {G : jv_G} {o : md_O} {F : Nat → Int32} {A : Nat → Nat → Int32} {S : Nat → Nat} (hO : md_K G o) (hS : ∀ j, j < 237 → A 0 j = nI (S j)) {T : t_T2} (hT : isT S F A T) (hk : okT T) (hwf : wfT S T) (z : Nat) (hz : z < 3) (hWs : wfS S) : jv_Ct G l yX2_sumOf cX2_sumOf 4 (some .int) 1 0 0 23 [.ref o.2.1, .int (nI z)] (md_M G o F A) (jv_qi G (jv_pi (nI (sumN S T z (S 0))) (md_M G o F A))) := by
  refine jv_Ct.of (lv := [(0, .ref o.2.1), (1, .int (nI z))]) (by decide) (Nat.le_of_ble_eq_true rfl) rfl ?_
  intro x Q_ hl_ hQ X
  subst hl_
  have hW := hWs.1
  have hn36 : tn T ≤ 36 := by have := hk.1; omega
  have hS0 := hW.p
  have hrr := hW.r
  refine jv_iconst (v := nI 0) X dX2_sumOf_0 rfl ?_
  refine jv_istore_n (lv' := [(2, .int (nI 0)), (0, .ref o.2.1), (1, .int (nI z))]) X dX2_sumOf_1 rfl (by decide) rfl ?_
  refine jv_iconst (v := nI 0) X dX2_sumOf_2 rfl ?_
  refine jv_istore_n (lv' := [(3, .int (nI 0)), (2, .int (nI 0)), (0, .ref o.2.1), (1, .int (nI z))]) X dX2_sumOf_3 rfl (by decide) rfl ?_
  have lp4_1 : ∀ (d_4 : Nat) (q : Nat) (w : Nat), q ≤ S 0 → w = sumN S T z q → S 0 - q < d_4 → jv_J x G 4 Q_ (md_M G o F A) 0 0 4 [(0, .ref o.2.1), (1, .int (nI z)), (2, .int (nI w)), (3, .int (nI q))] [] := by
    intro d_4
    induction d_4 with
    | zero => intro q w hq hw hm_4; exact absurd hm_4 (Nat.not_lt_zero _)
    | succ d_4 ih_4 =>
      intro q w hq hw hm_4
      refine jv_iload_n X dX2_sumOf_4 3 rfl ?_
      refine jv_aload_n X dX2_sumOf_5 0 rfl ?_
      refine jm_getA X dX2_sumOf_6 0 (by decide) q2010 rfl ?_
      refine jv_iconst (v := nI 0) X dX2_sumOf_9 rfl ?_
      refine jm_ld (v := nI (S 0)) X hO dX2_sumOf_10 0 (by decide) (show 0 < 237 from (by omega)) (hS _ (by omega)) ?_
      refine jn_icmp_ge 47 X dX2_sumOf_11 (by decide) (by omega) (by omega) (fun c11 => ?_) (fun c11 => ?_)
      · skip
        refine jv_iload_n X dX2_sumOf_47 2 rfl ?_
        exact jv_iret (v := nI w) X dX2_sumOf_48 rfl hQ (Nat.le_of_ble_eq_true rfl) (Nat.le_of_ble_eq_true rfl) ⟨(by rw [hw, show q = S 0 by omega]), rfl⟩
      · skip
        have h64 := hk.2.1 q (by omega)
        refine jv_iload_n X dX2_sumOf_14 2 rfl ?_
        refine jv_iload_n X dX2_sumOf_15 1 rfl ?_
        refine jv_iconst (v := nI 2) X dX2_sumOf_16 rfl ?_
        have j39_2 : ∀ wx : Nat, wx = (if 2 ≤ z then (cntN (tl T q) 64) else (v_of S q z)) → jv_J x G 4 Q_ (md_M G o F A) 0 0 39 [(0, .ref o.2.1), (1, .int (nI z)), (2, .int (nI w)), (3, .int (nI q))] [.int (nI wx), .int (nI w)] := by
          intro wx e_wx
          refine jv_iadd (w := nI (w + wx)) X dX2_sumOf_39 (nI_add _ _) ?_
          refine jv_istore_n (lv' := [(2, .int (nI (w + wx))), (0, .ref o.2.1), (1, .int (nI z)), (3, .int (nI q))]) X dX2_sumOf_40 rfl (by decide) rfl ?_
          refine jv_iinc (v := nI (q + 1)) (lv' := [(3, .int (nI (q + 1))), (2, .int (nI (w + wx))), (0, .ref o.2.1), (1, .int (nI z))]) X dX2_sumOf_41 3 rfl (nI_1 _) (by decide) rfl ?_
          refine jv_goto 4 X dX2_sumOf_44 (by decide) ?_
          refine jv_lv (lv' := [(0, .ref o.2.1), (1, .int (nI z)), (2, .int (nI (w + wx))), (3, .int (nI (q + 1)))]) [2, 3, 1, 0] rfl ?_
          exact ih_4 (q + 1) (w + wx) (by omega) (by rw [hw, e_wx]; rfl) (by omega)
        refine jn_icmp_ge 29 X dX2_sumOf_17 (by decide) (by omega) (by decide) (fun c17 => ?_) (fun c17 => ?_)
        · skip
          refine jv_aload_n X dX2_sumOf_29 0 rfl ?_
          refine jm_getA X dX2_sumOf_30 12 (by decide) q2022 rfl ?_
          refine jv_iload_n X dX2_sumOf_33 3 rfl ?_
          refine jm_ld (v := nI (tl T q)) X hO dX2_sumOf_34 12 (by decide) (show q < 6 from (by omega)) (hT.2.2.1 _ (by omega)) ?_
          refine jv_i2l (w := lN (tl T q)) X dX2_sumOf_35 (nI_l (by omega)) ?_
          refine jv_ask (jv_runS (As := [.long (lN (tl T q))]) (rest := [.int (nI w)]) X dX2_sumOf_36 (c_X2_count (tl T q) (by omega)) (lw_S q2449 q2450 q100 q2451) hd_X2_count (Nat.le_of_ble_eq_true rfl) (Nat.le_of_ble_eq_true rfl) (Nat.le_of_ble_eq_true rfl) (Nat.le_of_ble_eq_true rfl) rfl (Nat.le_of_ble_eq_true rfl)) ?_
          exact j39_2 _ (if_pos c17).symm
        · skip
          refine jv_aload_n X dX2_sumOf_20 0 rfl ?_
          refine jv_iload_n X dX2_sumOf_21 3 rfl ?_
          refine jv_iload_n X dX2_sumOf_22 1 rfl ?_
          refine jv_ask (jv_runV (As := [.int (nI q), .int (nI z)]) (rest := [.int (nI w)]) X dX2_sumOf_23 (c_X2_of hO hS q z (by omega) (by omega)) (lw_V q2115 q2117 qs42 q100 q2118) hd_X2_of md_M_o rfl (Nat.le_of_ble_eq_true rfl) (Nat.le_of_ble_eq_true rfl) (Nat.le_of_ble_eq_true rfl) (Nat.le_of_ble_eq_true rfl) rfl (Nat.le_of_ble_eq_true rfl)) ?_
          refine jv_goto 39 X dX2_sumOf_26 (by decide) ?_
          exact j39_2 _ (if_neg (Nat.not_le.mpr c17)).symm
  refine jv_lv (lv' := [(0, .ref o.2.1), (1, .int (nI z)), (2, .int (nI 0)), (3, .int (nI 0))]) [2, 3, 1, 0] rfl ?_
  exact lp4_1 (S 0 + 1) 0 0 (Nat.zero_le _) rfl (by omega)
theorem hd_X2_learnedRules : jv_dd yX2_learnedRules 0 := by unfold jv_dd; decide +kernel
set_option maxHeartbeats 4000000 in
theorem c_X2_learnedRules {l : Launch} {G : jv_G} {o : md_O} {F : Nat → Int32} {A : Nat → Nat → Int32} {S : Nat → Nat} (hO : md_K G o) (hS : ∀ j, j < 237 → A 0 j = nI (S j))  (hW : wfB S) : jv_Ct G l yX2_learnedRules cX2_learnedRules 3 (some .int) 1 0 0 22 [.ref o.2.1] (md_M G o F A) (jv_qi G (jv_pi (nI (lruN S (S 1))) (md_M G o F A))) := by
  refine jv_Ct.of (lv := [(0, .ref o.2.1)]) (by decide) (Nat.le_of_ble_eq_true rfl) rfl ?_
  intro x Q_ hl_ hQ X
  subst hl_
  have hrr := hW.r
  refine jv_iconst (v := nI 0) X dX2_learnedRules_0 rfl ?_
  refine jv_istore_n (lv' := [(1, .int (nI 0)), (0, .ref o.2.1)]) X dX2_learnedRules_1 rfl (by decide) rfl ?_
  refine jv_iconst (v := nI 0) X dX2_learnedRules_2 rfl ?_
  refine jv_istore_n (lv' := [(2, .int (nI 0)), (1, .int (nI 0)), (0, .ref o.2.1)]) X dX2_learnedRules_3 rfl (by decide) rfl ?_
  have lp4_1 : ∀ (d_4 : Nat) (q : Nat) (w : Nat), q ≤ S 1 → w = lruN S q → S 1 - q < d_4 → jv_J x G 3 Q_ (md_M G o F A) 0 0 4 [(0, .ref o.2.1), (1, .int (nI w)), (2, .int (nI q))] [] := by
    intro d_4
    induction d_4 with
    | zero => intro q w hq hw hm_4; exact absurd hm_4 (Nat.not_lt_zero _)
    | succ d_4 ih_4 =>
      intro q w hq hw hm_4
      refine jv_iload_n X dX2_learnedRules_4 2 rfl ?_
      refine jv_aload_n X dX2_learnedRules_5 0 rfl ?_
      refine jm_getA X dX2_learnedRules_6 0 (by decide) q2010 rfl ?_
      refine jv_iconst (v := nI 1) X dX2_learnedRules_9 rfl ?_
      refine jm_ld (v := nI (S 1)) X hO dX2_learnedRules_10 0 (by decide) (show 1 < 237 from (by omega)) (hS _ (by omega)) ?_
      refine jn_icmp_ge 38 X dX2_learnedRules_11 (by decide) (by omega) (by omega) (fun c11 => ?_) (fun c11 => ?_)
      · skip
        refine jv_iload_n X dX2_learnedRules_38 1 rfl ?_
        exact jv_iret (v := nI w) X dX2_learnedRules_39 rfl hQ (Nat.le_of_ble_eq_true rfl) (Nat.le_of_ble_eq_true rfl) ⟨(by rw [hw, show q = S 1 by omega]), rfl⟩
      · skip
        have h0 := hW.rk (r := q) (by omega)
        refine jv_iload_n X dX2_learnedRules_14 1 rfl ?_
        refine jv_aload_n X dX2_learnedRules_15 0 rfl ?_
        refine jv_iload_n X dX2_learnedRules_16 2 rfl ?_
        refine jv_iconst (v := nI 0) X dX2_learnedRules_17 rfl ?_
        refine jv_ask (jv_runV (As := [.int (nI q), .int (nI 0)]) (rest := [.int (nI w)]) X dX2_learnedRules_18 (c_X2_ofRule hO hS q 0 (by omega) (by omega)) (lw_V q2142 q2144 qs46 q100 q2145) hd_X2_ofRule md_M_o rfl (Nat.le_of_ble_eq_true rfl) (Nat.le_of_ble_eq_true rfl) (Nat.le_of_ble_eq_true rfl) (Nat.le_of_ble_eq_true rfl) rfl (Nat.le_of_ble_eq_true rfl)) ?_
        refine jv_iconst (v := nI 3) X dX2_learnedRules_21 rfl ?_
        have j30_2 : ∀ wx : Nat, wx = (if (v_ofRule S q 0) = 3 then 1 else 0) → jv_J x G 3 Q_ (md_M G o F A) 0 0 30 [(0, .ref o.2.1), (1, .int (nI w)), (2, .int (nI q))] [.int (nI wx), .int (nI w)] := by
          intro wx e_wx
          refine jv_iadd (w := nI (w + wx)) X dX2_learnedRules_30 (nI_add _ _) ?_
          refine jv_istore_n (lv' := [(1, .int (nI (w + wx))), (0, .ref o.2.1), (2, .int (nI q))]) X dX2_learnedRules_31 rfl (by decide) rfl ?_
          refine jv_iinc (v := nI (q + 1)) (lv' := [(2, .int (nI (q + 1))), (1, .int (nI (w + wx))), (0, .ref o.2.1)]) X dX2_learnedRules_32 2 rfl (nI_1 _) (by decide) rfl ?_
          refine jv_goto 4 X dX2_learnedRules_35 (by decide) ?_
          refine jv_lv (lv' := [(0, .ref o.2.1), (1, .int (nI (w + wx))), (2, .int (nI (q + 1)))]) [2, 1, 0] rfl ?_
          exact ih_4 (q + 1) (w + wx) (by omega) (by rw [hw, e_wx]; rfl) (by omega)
        refine jn_icmp_ne 29 X dX2_learnedRules_22 (by decide) (by omega) (by decide) (fun c22 => ?_) (fun c22 => ?_)
        · skip
          refine jv_iconst (v := nI 0) X dX2_learnedRules_29 rfl ?_
          exact j30_2 _ (if_neg c22).symm
        · skip
          refine jv_iconst (v := nI 1) X dX2_learnedRules_25 rfl ?_
          refine jv_goto 30 X dX2_learnedRules_26 (by decide) ?_
          exact j30_2 _ (if_pos c22).symm
  refine jv_lv (lv' := [(0, .ref o.2.1), (1, .int (nI 0)), (2, .int (nI 0))]) [2, 1, 0] rfl ?_
  exact lp4_1 (S 1 + 1) 0 0 (Nat.zero_le _) rfl (by omega)
