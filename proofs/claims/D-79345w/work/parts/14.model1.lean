/-! reference, first -/
set_option maxRecDepth 100000
theorem hd_X2_in : jv_dd yX2_in 3 := by unfold jv_dd; decide +kernel
set_option maxHeartbeats 4000000 in
theorem c_X2_in {l : Launch} {G : jv_G} {M : jv_M} (u : Int32) (a : Int32) (b : Int32)  : jv_Ct G l yX2_in cX2_in 3 (some .boolean) 0 0 0 0 [.int u, .int a, .int b] M (jv_qi G (jv_pi (bI (v_in u a b)) M)) := by
  refine jv_Ct.of (lv := [(0, .int u), (1, .int a), (2, .int b)]) (by decide) (Nat.le_of_ble_eq_true rfl) rfl ?_
  intro x Q_ hl_ hQ X
  subst hl_
  refine jv_iload_n X dX2_in_0 0 rfl ?_
  refine jv_iload_n X dX2_in_1 1 rfl ?_
  have j15_1 : ∀ w_2 : Bool, w_2 = (if u < a then false else (if b < u then false else true)) → jv_J x G 3 Q_ M 0 0 15 [(0, .int u), (1, .int a), (2, .int b)] [.int (bI w_2)] := by
    intro w_2 e_w_2
    subst e_w_2
    exact jv_iret (v := bI (if u < a then false else (if b < u then false else true))) X dX2_in_15 (bI_nar _) hQ (Nat.le_of_ble_eq_true rfl) (Nat.le_of_ble_eq_true rfl) ⟨rfl, rfl⟩
  refine jv_icmp_lt 14 X dX2_in_2 (by decide) (fun c2 => ?_) (fun c2 => ?_)
  · skip
    refine jv_iconst (v := nI 0) X dX2_in_14 rfl ?_
    exact j15_1 _ (if_pos c2).symm
  · skip
    refine jv_iload_n X dX2_in_5 0 rfl ?_
    refine jv_iload_n X dX2_in_6 2 rfl ?_
    refine jv_icmp_gt 14 X dX2_in_7 (by decide) (fun c7 => ?_) (fun c7 => ?_)
    · skip
      refine jv_iconst (v := nI 0) X dX2_in_14 rfl ?_
      exact j15_1 _ ((if_neg c2).trans (if_pos c7)).symm
    · skip
      refine jv_iconst (v := nI 1) X dX2_in_10 rfl ?_
      refine jv_goto 15 X dX2_in_11 (by decide) ?_
      exact j15_1 _ ((if_neg c2).trans (if_neg c7)).symm
theorem c_X2_inN {l : Launch} {G : jv_G} {M : jv_M} (u a b : Nat) (hu : u < 2 ^ 31) (ha : a < 2 ^ 31) (hb : b < 2 ^ 31) : jv_Ct G l yX2_in cX2_in 3 (some .boolean) 0 0 0 0 [.int (nI u), .int (nI a), .int (nI b)] M (jv_qi G (jv_pi (bI (v_inN u a b)) M)) := v_in_N hu ha hb ▸ c_X2_in _ _ _
theorem hd_X2_order : jv_dd yX2_order 1 := by unfold jv_dd; decide +kernel
set_option maxHeartbeats 4000000 in
theorem c_X2_order {l : Launch} {G : jv_G} {M : jv_M} (v : Nat) (hv : v < 10000) : jv_Ct G l yX2_order cX2_order 1 (some .int) 0 0 0 0 [.int (nI v)] M (jv_qi G (jv_pi (nI (v_order v)) M)) := by
  refine jv_Ct.of (lv := [(0, .int (nI v))]) (by decide) (Nat.le_of_ble_eq_true rfl) rfl ?_
  intro x Q_ hl_ hQ X
  subst hl_
  refine jv_iload_n X dX2_order_0 0 rfl ?_
  refine jv_bipush (v := nI 10) X dX2_order_1 rfl ?_
  refine jv_idiv (w := nI (v / 10)) X dX2_order_3 (ni_nz (by decide) (by decide)) (pk_div (by omega) (by decide) (by decide)) ?_
  refine jv_bipush (v := nI 11) X dX2_order_4 rfl ?_
  refine jv_imul (w := nI ((v / 10) * 11)) X dX2_order_6 (pk_mul _ _) ?_
  refine jv_iload_n X dX2_order_7 0 rfl ?_
  refine jv_bipush (v := nI 10) X dX2_order_8 rfl ?_
  refine jv_irem (w := nI (v % 10)) X dX2_order_10 (ni_nz (by decide) (by decide)) (pk_rem (by omega) (by decide) (by decide)) ?_
  have j23_1 : ∀ w_2 : Nat, w_2 = (if (v % 10) = 0 then 10 else (v % 10)) → jv_J x G 1 Q_ M 0 0 23 [(0, .int (nI v))] [.int (nI w_2), .int (nI ((v / 10) * 11))] := by
    intro w_2 e_w_2
    subst e_w_2
    refine jv_iadd (w := nI (((v / 10) * 11) + (if (v % 10) = 0 then 10 else (v % 10)))) X dX2_order_23 (nI_add _ _) ?_
    exact jv_iret (v := nI (((v / 10) * 11) + (if (v % 10) = 0 then 10 else (v % 10)))) X dX2_order_24 rfl hQ (Nat.le_of_ble_eq_true rfl) (Nat.le_of_ble_eq_true rfl) ⟨rfl, rfl⟩
  refine jn_if_ne 19 X dX2_order_11 (by decide) (by omega) (fun c11 => ?_) (fun c11 => ?_)
  · skip
    refine jv_iload_n X dX2_order_19 0 rfl ?_
    refine jv_bipush (v := nI 10) X dX2_order_20 rfl ?_
    refine jv_irem (w := nI (v % 10)) X dX2_order_22 (ni_nz (by decide) (by decide)) (pk_rem (by omega) (by decide) (by decide)) ?_
    exact j23_1 _ (if_neg c11).symm
  · skip
    refine jv_bipush (v := nI 10) X dX2_order_14 rfl ?_
    refine jv_goto 23 X dX2_order_16 (by decide) ?_
    exact j23_1 _ (if_pos c11).symm
theorem hd_X2_isRange : jv_dd yX2_isRange 1 := by unfold jv_dd; decide +kernel
set_option maxHeartbeats 4000000 in
theorem c_X2_isRange {l : Launch} {G : jv_G} {M : jv_M} (r : Int32)  : jv_Ct G l yX2_isRange cX2_isRange 1 (some .boolean) 1 0 0 22 [.int r] M (jv_qi G (jv_pi (bI (v_isRange r)) M)) := by
  refine jv_Ct.of (lv := [(0, .int r)]) (by decide) (Nat.le_of_ble_eq_true rfl) rfl ?_
  intro x Q_ hl_ hQ X
  subst hl_
  refine jv_iload_n X dX2_isRange_0 0 rfl ?_
  refine jv_iconst (v := nI 0) X dX2_isRange_1 rfl ?_
  refine jv_sipush (v := nI 5999) X dX2_isRange_2 rfl ?_
  refine jv_ask (jv_runS (As := [.int r, .int (nI 0), .int (nI 5999)]) (rest := []) X dX2_isRange_5 (c_X2_in r (nI 0) (nI 5999)) (lw_S q2112 q2113 q100 q2114) hd_X2_in (Nat.le_of_ble_eq_true rfl) (Nat.le_of_ble_eq_true rfl) (Nat.le_of_ble_eq_true rfl) (Nat.le_of_ble_eq_true rfl) rfl (Nat.le_of_ble_eq_true rfl)) ?_
  exact jv_iret (v := bI (v_in r (nI 0) (nI 5999))) X dX2_isRange_8 (bI_nar _) hQ (Nat.le_of_ble_eq_true rfl) (Nat.le_of_ble_eq_true rfl) ⟨rfl, rfl⟩
theorem hd_X2_of : jv_dd yX2_of 2 := by unfold jv_dd; decide +kernel
set_option maxHeartbeats 4000000 in
theorem c_X2_of {l : Launch} {G : jv_G} {o : md_O} {F : Nat → Int32} {A : Nat → Nat → Int32} {S : Nat → Nat} (hO : md_K G o) (hS : ∀ j, j < 237 → A 0 j = nI (S j)) (p : Nat) (w : Nat) (hp : p < 6) (hw : w < 7) : jv_Ct G l yX2_of cX2_of 3 (some .int) 0 0 0 0 [.ref o.2.1, .int (nI p), .int (nI w)] (md_M G o F A) (jv_qi G (jv_pi (nI (v_of S p w)) (md_M G o F A))) := by
  refine jv_Ct.of (lv := [(0, .ref o.2.1), (1, .int (nI p)), (2, .int (nI w))]) (by decide) (Nat.le_of_ble_eq_true rfl) rfl ?_
  intro x Q_ hl_ hQ X
  subst hl_
  refine jv_aload_n X dX2_of_0 0 rfl ?_
  refine jm_getA X dX2_of_1 0 (by decide) q2010 rfl ?_
  refine jv_iconst (v := nI 3) X dX2_of_4 rfl ?_
  refine jv_bipush (v := nI 7) X dX2_of_5 rfl ?_
  refine jv_iload_n X dX2_of_7 1 rfl ?_
  refine jv_imul (w := nI (7 * p)) X dX2_of_8 (pk_mul _ _) ?_
  refine jv_iadd (w := nI (3 + (7 * p))) X dX2_of_9 (nI_add _ _) ?_
  refine jv_iload_n X dX2_of_10 2 rfl ?_
  refine jv_iadd (w := nI ((3 + (7 * p)) + w)) X dX2_of_11 (nI_add _ _) ?_
  refine jm_ld (v := nI (S ((3 + (7 * p)) + w))) X hO dX2_of_12 0 (by decide) (show ((3 + (7 * p)) + w) < 237 from (by omega)) (hS _ (by omega)) ?_
  exact jv_iret (v := nI (S ((3 + (7 * p)) + w))) X dX2_of_13 rfl hQ (Nat.le_of_ble_eq_true rfl) (Nat.le_of_ble_eq_true rfl) ⟨rfl, rfl⟩
theorem hd_X2_ofRule : jv_dd yX2_ofRule 2 := by unfold jv_dd; decide +kernel
set_option maxHeartbeats 4000000 in
theorem c_X2_ofRule {l : Launch} {G : jv_G} {o : md_O} {F : Nat → Int32} {A : Nat → Nat → Int32} {S : Nat → Nat} (hO : md_K G o) (hS : ∀ j, j < 237 → A 0 j = nI (S j)) (p : Nat) (w : Nat) (hp : p < 30) (hw : w < 6) : jv_Ct G l yX2_ofRule cX2_ofRule 3 (some .int) 0 0 0 0 [.ref o.2.1, .int (nI p), .int (nI w)] (md_M G o F A) (jv_qi G (jv_pi (nI (v_ofRule S p w)) (md_M G o F A))) := by
  refine jv_Ct.of (lv := [(0, .ref o.2.1), (1, .int (nI p)), (2, .int (nI w))]) (by decide) (Nat.le_of_ble_eq_true rfl) rfl ?_
  intro x Q_ hl_ hQ X
  subst hl_
  refine jv_aload_n X dX2_ofRule_0 0 rfl ?_
  refine jm_getA X dX2_ofRule_1 0 (by decide) q2010 rfl ?_
  refine jv_bipush (v := nI 45) X dX2_ofRule_4 rfl ?_
  refine jv_bipush (v := nI 6) X dX2_ofRule_6 rfl ?_
  refine jv_iload_n X dX2_ofRule_8 1 rfl ?_
  refine jv_imul (w := nI (6 * p)) X dX2_ofRule_9 (pk_mul _ _) ?_
  refine jv_iadd (w := nI (45 + (6 * p))) X dX2_ofRule_10 (nI_add _ _) ?_
  refine jv_iload_n X dX2_ofRule_11 2 rfl ?_
  refine jv_iadd (w := nI ((45 + (6 * p)) + w)) X dX2_ofRule_12 (nI_add _ _) ?_
  refine jm_ld (v := nI (S ((45 + (6 * p)) + w))) X hO dX2_ofRule_13 0 (by decide) (show ((45 + (6 * p)) + w) < 237 from (by omega)) (hS _ (by omega)) ?_
  exact jv_iret (v := nI (S ((45 + (6 * p)) + w))) X dX2_ofRule_14 rfl hQ (Nat.le_of_ble_eq_true rfl) (Nat.le_of_ble_eq_true rfl) ⟨rfl, rfl⟩
theorem hd_X2_isPack : jv_dd yX2_isPack 1 := by unfold jv_dd; decide +kernel
set_option maxHeartbeats 4000000 in
theorem c_X2_isPack {l : Launch} {G : jv_G} {o : md_O} {F : Nat → Int32} {A : Nat → Nat → Int32} {S : Nat → Nat} (hO : md_K G o) (hS : ∀ j, j < 237 → A 0 j = nI (S j)) (p : Int32)  : jv_Ct G l yX2_isPack cX2_isPack 2 (some .boolean) 1 0 0 22 [.ref o.2.1, .int p] (md_M G o F A) (jv_qi G (jv_pi (bI (v_isPack S p)) (md_M G o F A))) := by
  refine jv_Ct.of (lv := [(0, .ref o.2.1), (1, .int p)]) (by decide) (Nat.le_of_ble_eq_true rfl) rfl ?_
  intro x Q_ hl_ hQ X
  subst hl_
  refine jv_iload_n X dX2_isPack_0 1 rfl ?_
  refine jv_iconst (v := nI 0) X dX2_isPack_1 rfl ?_
  refine jv_aload_n X dX2_isPack_2 0 rfl ?_
  refine jm_getA X dX2_isPack_3 0 (by decide) q2010 rfl ?_
  refine jv_iconst (v := nI 0) X dX2_isPack_6 rfl ?_
  refine jm_ld (v := nI (S 0)) X hO dX2_isPack_7 0 (by decide) (show 0 < 237 from (by omega)) (hS _ (by omega)) ?_
  refine jv_iconst (v := nI 1) X dX2_isPack_8 rfl ?_
  refine jv_isub (w := (nI (S 0)) - (nI 1)) X dX2_isPack_9 rfl ?_
  refine jv_ask (jv_runS (As := [.int p, .int (nI 0), .int ((nI (S 0)) - (nI 1))]) (rest := []) X dX2_isPack_10 (c_X2_in p (nI 0) ((nI (S 0)) - (nI 1))) (lw_S q2112 q2113 q100 q2114) hd_X2_in (Nat.le_of_ble_eq_true rfl) (Nat.le_of_ble_eq_true rfl) (Nat.le_of_ble_eq_true rfl) (Nat.le_of_ble_eq_true rfl) rfl (Nat.le_of_ble_eq_true rfl)) ?_
  exact jv_iret (v := bI (v_in p (nI 0) ((nI (S 0)) - (nI 1)))) X dX2_isPack_13 (bI_nar _) hQ (Nat.le_of_ble_eq_true rfl) (Nat.le_of_ble_eq_true rfl) ⟨rfl, rfl⟩
theorem hd_X2_isRule : jv_dd yX2_isRule 1 := by unfold jv_dd; decide +kernel
set_option maxHeartbeats 4000000 in
theorem c_X2_isRule {l : Launch} {G : jv_G} {o : md_O} {F : Nat → Int32} {A : Nat → Nat → Int32} {S : Nat → Nat} (hO : md_K G o) (hS : ∀ j, j < 237 → A 0 j = nI (S j)) (p : Int32)  : jv_Ct G l yX2_isRule cX2_isRule 2 (some .boolean) 1 0 0 22 [.ref o.2.1, .int p] (md_M G o F A) (jv_qi G (jv_pi (bI (v_isRule S p)) (md_M G o F A))) := by
  refine jv_Ct.of (lv := [(0, .ref o.2.1), (1, .int p)]) (by decide) (Nat.le_of_ble_eq_true rfl) rfl ?_
  intro x Q_ hl_ hQ X
  subst hl_
  refine jv_iload_n X dX2_isRule_0 1 rfl ?_
  refine jv_iconst (v := nI 0) X dX2_isRule_1 rfl ?_
  refine jv_aload_n X dX2_isRule_2 0 rfl ?_
  refine jm_getA X dX2_isRule_3 0 (by decide) q2010 rfl ?_
  refine jv_iconst (v := nI 1) X dX2_isRule_6 rfl ?_
  refine jm_ld (v := nI (S 1)) X hO dX2_isRule_7 0 (by decide) (show 1 < 237 from (by omega)) (hS _ (by omega)) ?_
  refine jv_iconst (v := nI 1) X dX2_isRule_8 rfl ?_
  refine jv_isub (w := (nI (S 1)) - (nI 1)) X dX2_isRule_9 rfl ?_
  refine jv_ask (jv_runS (As := [.int p, .int (nI 0), .int ((nI (S 1)) - (nI 1))]) (rest := []) X dX2_isRule_10 (c_X2_in p (nI 0) ((nI (S 1)) - (nI 1))) (lw_S q2112 q2113 q100 q2114) hd_X2_in (Nat.le_of_ble_eq_true rfl) (Nat.le_of_ble_eq_true rfl) (Nat.le_of_ble_eq_true rfl) (Nat.le_of_ble_eq_true rfl) rfl (Nat.le_of_ble_eq_true rfl)) ?_
  exact jv_iret (v := bI (v_in p (nI 0) ((nI (S 1)) - (nI 1)))) X dX2_isRule_13 (bI_nar _) hQ (Nat.le_of_ble_eq_true rfl) (Nat.le_of_ble_eq_true rfl) ⟨rfl, rfl⟩
theorem hd_X2_isVersion : jv_dd yX2_isVersion 2 := by unfold jv_dd; decide +kernel
set_option maxHeartbeats 4000000 in
theorem c_X2_isVersion {l : Launch} {G : jv_G} {o : md_O} {F : Nat → Int32} {A : Nat → Nat → Int32} {S : Nat → Nat} (hO : md_K G o) (hS : ∀ j, j < 237 → A 0 j = nI (S j)) (p : Int32) (v : Int32) (hW : wfB S) : jv_Ct G l yX2_isVersion cX2_isVersion 3 (some .boolean) 2 0 0 43 [.ref o.2.1, .int p, .int v] (md_M G o F A) (jv_qi G (jv_pi (bI (v_isVersion S p v)) (md_M G o F A))) := by
  refine jv_Ct.of (lv := [(0, .ref o.2.1), (1, .int p), (2, .int v)]) (by decide) (Nat.le_of_ble_eq_true rfl) rfl ?_
  intro x Q_ hl_ hQ X
  subst hl_
  refine jv_aload_n X dX2_isVersion_0 0 rfl ?_
  refine jv_iload_n X dX2_isVersion_1 1 rfl ?_
  refine jv_ask (jv_runV (As := [.int p]) (rest := []) X dX2_isVersion_2 (c_X2_isPack hO hS p) (lw_V q2108 q2110 qs41 q100 q2111) hd_X2_isPack md_M_o rfl (Nat.le_of_ble_eq_true rfl) (Nat.le_of_ble_eq_true rfl) (Nat.le_of_ble_eq_true rfl) (Nat.le_of_ble_eq_true rfl) rfl (Nat.le_of_ble_eq_true rfl)) ?_
  have j29_1 : ∀ w_2 : Bool, w_2 = (if (v_isPack S p) = true then (if (v_in v (nI 0) ((nI (v_of S p.toNatClampNeg 0)) - (nI 1))) = true then true else false) else false) → jv_J x G 3 Q_ (md_M G o F A) 0 0 29 [(0, .ref o.2.1), (1, .int p), (2, .int v)] [.int (bI w_2)] := by
    intro w_2 e_w_2
    replace e_w_2 : w_2 = v_isVersion S p v := e_w_2.trans (by unfold v_isVersion; rw [ite_b])
    subst e_w_2
    exact jv_iret (v := bI (v_isVersion S p v)) X dX2_isVersion_29 (bI_nar _) hQ (Nat.le_of_ble_eq_true rfl) (Nat.le_of_ble_eq_true rfl) ⟨rfl, rfl⟩
  refine jb_if_eq 28 X dX2_isVersion_5 (by decide) (fun c5 => ?_) (fun c5 => ?_)
  · skip
    refine jv_iconst (v := nI 0) X dX2_isVersion_28 rfl ?_
    exact j29_1 _ (if_neg (Bool.eq_false_iff.mp c5)).symm
  · skip
    have hq_p : nI (p.toNatClampNeg) = p := (v_isPack_n hW c5).2
    refine jv_to (lv' := [(0, .ref o.2.1), (1, .int (nI p.toNatClampNeg)), (2, .int v)]) (st' := []) (by rw [hq_p]) rfl ?_
    have hp6 := Nat.lt_of_lt_of_le (v_isPack_n hW c5).1 hW.p
    refine jv_iload_n X dX2_isVersion_8 2 rfl ?_
    refine jv_iconst (v := nI 0) X dX2_isVersion_9 rfl ?_
    refine jv_aload_n X dX2_isVersion_10 0 rfl ?_
    refine jv_iload_n X dX2_isVersion_11 1 rfl ?_
    refine jv_iconst (v := nI 0) X dX2_isVersion_12 rfl ?_
    refine jv_ask (jv_runV (As := [.int (nI p.toNatClampNeg), .int (nI 0)]) (rest := [.int (nI 0), .int v]) X dX2_isVersion_13 (c_X2_of hO hS p.toNatClampNeg 0 (by omega) (by omega)) (lw_V q2115 q2117 qs42 q100 q2118) hd_X2_of md_M_o rfl (Nat.le_of_ble_eq_true rfl) (Nat.le_of_ble_eq_true rfl) (Nat.le_of_ble_eq_true rfl) (Nat.le_of_ble_eq_true rfl) rfl (Nat.le_of_ble_eq_true rfl)) ?_
    refine jv_iconst (v := nI 1) X dX2_isVersion_16 rfl ?_
    refine jv_isub (w := (nI (v_of S p.toNatClampNeg 0)) - (nI 1)) X dX2_isVersion_17 rfl ?_
    refine jv_ask (jv_runS (As := [.int v, .int (nI 0), .int ((nI (v_of S p.toNatClampNeg 0)) - (nI 1))]) (rest := []) X dX2_isVersion_18 (c_X2_in v (nI 0) ((nI (v_of S p.toNatClampNeg 0)) - (nI 1))) (lw_S q2112 q2113 q100 q2114) hd_X2_in (Nat.le_of_ble_eq_true rfl) (Nat.le_of_ble_eq_true rfl) (Nat.le_of_ble_eq_true rfl) (Nat.le_of_ble_eq_true rfl) rfl (Nat.le_of_ble_eq_true rfl)) ?_
    refine jb_if_eq 28 X dX2_isVersion_21 (by decide) (fun c21 => ?_) (fun c21 => ?_)
    · skip
      refine jv_iconst (v := nI 0) X dX2_isVersion_28 rfl ?_
      refine jv_to (lv' := [(0, .ref o.2.1), (1, .int p), (2, .int v)]) (st' := [.int (nI 0)]) (by rw [hq_p]) rfl ?_
      exact j29_1 _ ((if_pos c5).trans (if_neg (Bool.eq_false_iff.mp c21))).symm
    · skip
      refine jv_iconst (v := nI 1) X dX2_isVersion_24 rfl ?_
      refine jv_goto 29 X dX2_isVersion_25 (by decide) ?_
      refine jv_to (lv' := [(0, .ref o.2.1), (1, .int p), (2, .int v)]) (st' := [.int (nI 1)]) (by rw [hq_p]) rfl ?_
      exact j29_1 _ ((if_pos c5).trans (if_pos c21)).symm
theorem sKd_t {k v b : Nat} {wb : Bool} (hk : k < 6) : (if k = 0 then true else (if k = 1 then (if v = b then true else (if k = 2 then (if wb = true then true else (if k = 3 then (if wb = true then (if k = 4 then (if wb = true then (if k = 5 then (if wb = true then false else (if (v / 10) = (b / 10) then true else false)) else false) else (if (v / 100) = (b / 100) then true else (if k = 5 then (if wb = true then false else (if (v / 10) = (b / 10) then true else false)) else false))) else (if k = 5 then (if wb = true then false else (if (v / 10) = (b / 10) then true else false)) else false)) else true) else (if k = 4 then (if wb = true then (if k = 5 then (if wb = true then false else (if (v / 10) = (b / 10) then true else false)) else false) else (if (v / 100) = (b / 100) then true else (if k = 5 then (if wb = true then false else (if (v / 10) = (b / 10) then true else false)) else false))) else (if k = 5 then (if wb = true then false else (if (v / 10) = (b / 10) then true else false)) else false)))) else (if k = 3 then (if wb = true then (if k = 4 then (if wb = true then (if k = 5 then (if wb = true then false else (if (v / 10) = (b / 10) then true else false)) else false) else (if (v / 100) = (b / 100) then true else (if k = 5 then (if wb = true then false else (if (v / 10) = (b / 10) then true else false)) else false))) else (if k = 5 then (if wb = true then false else (if (v / 10) = (b / 10) then true else false)) else false)) else true) else (if k = 4 then (if wb = true then (if k = 5 then (if wb = true then false else (if (v / 10) = (b / 10) then true else false)) else false) else (if (v / 100) = (b / 100) then true else (if k = 5 then (if wb = true then false else (if (v / 10) = (b / 10) then true else false)) else false))) else (if k = 5 then (if wb = true then false else (if (v / 10) = (b / 10) then true else false)) else false))))) else (if k = 2 then (if wb = true then true else (if k = 3 then (if wb = true then (if k = 4 then (if wb = true then (if k = 5 then (if wb = true then false else (if (v / 10) = (b / 10) then true else false)) else false) else (if (v / 100) = (b / 100) then true else (if k = 5 then (if wb = true then false else (if (v / 10) = (b / 10) then true else false)) else false))) else (if k = 5 then (if wb = true then false else (if (v / 10) = (b / 10) then true else false)) else false)) else true) else (if k = 4 then (if wb = true then (if k = 5 then (if wb = true then false else (if (v / 10) = (b / 10) then true else false)) else false) else (if (v / 100) = (b / 100) then true else (if k = 5 then (if wb = true then false else (if (v / 10) = (b / 10) then true else false)) else false))) else (if k = 5 then (if wb = true then false else (if (v / 10) = (b / 10) then true else false)) else false)))) else (if k = 3 then (if wb = true then (if k = 4 then (if wb = true then (if k = 5 then (if wb = true then false else (if (v / 10) = (b / 10) then true else false)) else false) else (if (v / 100) = (b / 100) then true else (if k = 5 then (if wb = true then false else (if (v / 10) = (b / 10) then true else false)) else false))) else (if k = 5 then (if wb = true then false else (if (v / 10) = (b / 10) then true else false)) else false)) else true) else (if k = 4 then (if wb = true then (if k = 5 then (if wb = true then false else (if (v / 10) = (b / 10) then true else false)) else false) else (if (v / 100) = (b / 100) then true else (if k = 5 then (if wb = true then false else (if (v / 10) = (b / 10) then true else false)) else false))) else (if k = 5 then (if wb = true then false else (if (v / 10) = (b / 10) then true else false)) else false)))))) = sKd k v b wb := by
  unfold sKd
  rcases (by omega : k = 0 ∨ k = 1 ∨ k = 2 ∨ k = 3 ∨ k = 4 ∨ k = 5) with rfl | rfl | rfl | rfl | rfl | rfl
  · simp
  · by_cases h : v = b <;> simp [h]
  · cases wb <;> simp
  · cases wb <;> simp
  · cases wb <;> by_cases h : v / 100 = b / 100 <;> simp [h]
  · cases wb <;> by_cases h : v / 10 = b / 10 <;> simp [h]
theorem sOp_t {wk : Bool} {op k v b : Nat} : (if wk = true then (if (v % 10) = 0 then true else (if op = 1 then true else (if k = 0 then false else (if (b % 10) = 0 then false else (if (v / 10) = (b / 10) then true else false))))) else false) = (wk && sOp op k v b) := by
  unfold sOp
  cases wk <;> by_cases h1 : v % 10 = 0 <;> by_cases h2 : op = 1 <;> by_cases h3 : k = 0 <;> by_cases h4 : b % 10 = 0 <;> by_cases h5 : v / 10 = b / 10 <;> simp [h1, h2, h3, h4, h5]
theorem hd_X2_isIn : jv_dd yX2_isIn 3 := by unfold jv_dd; decide +kernel
set_option maxHeartbeats 4000000 in
theorem c_X2_isIn {l : Launch} {G : jv_G} {o : md_O} {F : Nat → Int32} {A : Nat → Nat → Int32} {S : Nat → Nat} (hO : md_K G o) (hS : ∀ j, j < 237 → A 0 j = nI (S j)) (p : Nat) (v : Nat) (r : Nat) (hp : p < 6) (hv : v < 1000) (hr : r < 6000) (hW : wfB S) : jv_Ct G l yX2_isIn cX2_isIn 8 (some .boolean) 1 0 0 22 [.ref o.2.1, .int (nI p), .int (nI v), .int (nI r)] (md_M G o F A) (jv_qi G (jv_pi (bI (sIn (v_of S p 1) v r)) (md_M G o F A))) := by
  refine jv_Ct.of (lv := [(0, .ref o.2.1), (1, .int (nI p)), (2, .int (nI v)), (3, .int (nI r))]) (by decide) (Nat.le_of_ble_eq_true rfl) rfl ?_
  intro x Q_ hl_ hQ X
  subst hl_
  refine jv_iload_n X dX2_isIn_0 3 rfl ?_
  refine jv_sipush (v := nI 1000) X dX2_isIn_1 rfl ?_
  refine jv_idiv (w := nI (r / 1000)) X dX2_isIn_4 (ni_nz (by decide) (by decide)) (pk_div (by omega) (by decide) (by decide)) ?_
  refine jv_istore (lv' := [(4, .int (nI (r / 1000))), (0, .ref o.2.1), (1, .int (nI p)), (2, .int (nI v)), (3, .int (nI r))]) X dX2_isIn_5 (by decide) rfl ?_
  refine jv_iload_n X dX2_isIn_7 4 rfl ?_
  refine jv_sipush (v := nI 1000) X dX2_isIn_8 rfl ?_
  refine jv_irem (w := nI (r % 1000)) X dX2_isIn_11 (ni_nz (by decide) (by decide)) (pk_rem (by omega) (by decide) (by decide)) ?_
  refine jv_istore (lv' := [(5, .int (nI (r % 1000))), (4, .int (nI (r / 1000))), (0, .ref o.2.1), (1, .int (nI p)), (2, .int (nI v)), (3, .int (nI r))]) X dX2_isIn_12 (by decide) rfl ?_
  refine jv_iload_n X dX2_isIn_14 4 rfl ?_
  refine jv_ask (jv_runS (As := [.int (nI v)]) (rest := []) X dX2_isIn_15 (c_X2_order v (by omega)) (lw_S q2135 q2136 q100 q2137) hd_X2_order (Nat.le_of_ble_eq_true rfl) (Nat.le_of_ble_eq_true rfl) (Nat.le_of_ble_eq_true rfl) (Nat.le_of_ble_eq_true rfl) rfl (Nat.le_of_ble_eq_true rfl)) ?_
  refine jv_iload X dX2_isIn_18 0 rfl ?_
  refine jv_ask (jv_runS (As := [.int (nI (r % 1000))]) (rest := [.int (nI (v_order v))]) X dX2_isIn_20 (c_X2_order (r % 1000) (by omega)) (lw_S q2135 q2136 q100 q2137) hd_X2_order (Nat.le_of_ble_eq_true rfl) (Nat.le_of_ble_eq_true rfl) (Nat.le_of_ble_eq_true rfl) (Nat.le_of_ble_eq_true rfl) rfl (Nat.le_of_ble_eq_true rfl)) ?_
  have j31_1 : ∀ wb : Bool, wb = (if (v_order (r % 1000)) ≤ (v_order v) then false else true) → jv_J x G 8 Q_ (md_M G o F A) 0 0 31 [(5, .int (nI (r % 1000))), (4, .int (nI (r / 1000))), (0, .ref o.2.1), (1, .int (nI p)), (2, .int (nI v)), (3, .int (nI r))] [.int (bI wb)] := by
    intro wb e_wb
    replace e_wb : wb = decide (v_order v < v_order (r % 1000)) := e_wb.trans ite_ge
    refine jv_istore (lv' := [(6, .int (bI wb)), (5, .int (nI (r % 1000))), (4, .int (nI (r / 1000))), (0, .ref o.2.1), (1, .int (nI p)), (2, .int (nI v)), (3, .int (nI r))]) X dX2_isIn_31 (by decide) rfl ?_
    refine jv_iload X dX2_isIn_33 2 rfl ?_
    have j123_2 : ∀ wk : Bool, wk = (if (r / 1000) = 0 then true else (if (r / 1000) = 1 then (if v = (r % 1000) then true else (if (r / 1000) = 2 then (if wb = true then true else (if (r / 1000) = 3 then (if wb = true then (if (r / 1000) = 4 then (if wb = true then (if (r / 1000) = 5 then (if wb = true then false else (if (v / 10) = ((r % 1000) / 10) then true else false)) else false) else (if (v / 100) = ((r % 1000) / 100) then true else (if (r / 1000) = 5 then (if wb = true then false else (if (v / 10) = ((r % 1000) / 10) then true else false)) else false))) else (if (r / 1000) = 5 then (if wb = true then false else (if (v / 10) = ((r % 1000) / 10) then true else false)) else false)) else true) else (if (r / 1000) = 4 then (if wb = true then (if (r / 1000) = 5 then (if wb = true then false else (if (v / 10) = ((r % 1000) / 10) then true else false)) else false) else (if (v / 100) = ((r % 1000) / 100) then true else (if (r / 1000) = 5 then (if wb = true then false else (if (v / 10) = ((r % 1000) / 10) then true else false)) else false))) else (if (r / 1000) = 5 then (if wb = true then false else (if (v / 10) = ((r % 1000) / 10) then true else false)) else false)))) else (if (r / 1000) = 3 then (if wb = true then (if (r / 1000) = 4 then (if wb = true then (if (r / 1000) = 5 then (if wb = true then false else (if (v / 10) = ((r % 1000) / 10) then true else false)) else false) else (if (v / 100) = ((r % 1000) / 100) then true else (if (r / 1000) = 5 then (if wb = true then false else (if (v / 10) = ((r % 1000) / 10) then true else false)) else false))) else (if (r / 1000) = 5 then (if wb = true then false else (if (v / 10) = ((r % 1000) / 10) then true else false)) else false)) else true) else (if (r / 1000) = 4 then (if wb = true then (if (r / 1000) = 5 then (if wb = true then false else (if (v / 10) = ((r % 1000) / 10) then true else false)) else false) else (if (v / 100) = ((r % 1000) / 100) then true else (if (r / 1000) = 5 then (if wb = true then false else (if (v / 10) = ((r % 1000) / 10) then true else false)) else false))) else (if (r / 1000) = 5 then (if wb = true then false else (if (v / 10) = ((r % 1000) / 10) then true else false)) else false))))) else (if (r / 1000) = 2 then (if wb = true then true else (if (r / 1000) = 3 then (if wb = true then (if (r / 1000) = 4 then (if wb = true then (if (r / 1000) = 5 then (if wb = true then false else (if (v / 10) = ((r % 1000) / 10) then true else false)) else false) else (if (v / 100) = ((r % 1000) / 100) then true else (if (r / 1000) = 5 then (if wb = true then false else (if (v / 10) = ((r % 1000) / 10) then true else false)) else false))) else (if (r / 1000) = 5 then (if wb = true then false else (if (v / 10) = ((r % 1000) / 10) then true else false)) else false)) else true) else (if (r / 1000) = 4 then (if wb = true then (if (r / 1000) = 5 then (if wb = true then false else (if (v / 10) = ((r % 1000) / 10) then true else false)) else false) else (if (v / 100) = ((r % 1000) / 100) then true else (if (r / 1000) = 5 then (if wb = true then false else (if (v / 10) = ((r % 1000) / 10) then true else false)) else false))) else (if (r / 1000) = 5 then (if wb = true then false else (if (v / 10) = ((r % 1000) / 10) then true else false)) else false)))) else (if (r / 1000) = 3 then (if wb = true then (if (r / 1000) = 4 then (if wb = true then (if (r / 1000) = 5 then (if wb = true then false else (if (v / 10) = ((r % 1000) / 10) then true else false)) else false) else (if (v / 100) = ((r % 1000) / 100) then true else (if (r / 1000) = 5 then (if wb = true then false else (if (v / 10) = ((r % 1000) / 10) then true else false)) else false))) else (if (r / 1000) = 5 then (if wb = true then false else (if (v / 10) = ((r % 1000) / 10) then true else false)) else false)) else true) else (if (r / 1000) = 4 then (if wb = true then (if (r / 1000) = 5 then (if wb = true then false else (if (v / 10) = ((r % 1000) / 10) then true else false)) else false) else (if (v / 100) = ((r % 1000) / 100) then true else (if (r / 1000) = 5 then (if wb = true then false else (if (v / 10) = ((r % 1000) / 10) then true else false)) else false))) else (if (r / 1000) = 5 then (if wb = true then false else (if (v / 10) = ((r % 1000) / 10) then true else false)) else false)))))) → jv_J x G 8 Q_ (md_M G o F A) 0 0 123 [(6, .int (bI wb)), (5, .int (nI (r % 1000))), (4, .int (nI (r / 1000))), (0, .ref o.2.1), (1, .int (nI p)), (2, .int (nI v)), (3, .int (nI r))] [.int (bI wk)] := by
      intro wk e_wk
      replace e_wk : wk = sKd (r / 1000) v (r % 1000) wb := e_wk.trans (sKd_t (by omega))
      refine jv_istore (lv' := [(7, .int (bI wk)), (6, .int (bI wb)), (5, .int (nI (r % 1000))), (4, .int (nI (r / 1000))), (0, .ref o.2.1), (1, .int (nI p)), (2, .int (nI v)), (3, .int (nI r))]) X dX2_isIn_123 (by decide) rfl ?_
      refine jv_iload X dX2_isIn_125 0 rfl ?_
      have j177_3 : ∀ wo : Bool, wo = (if wk = true then (if (v % 10) = 0 then true else (if (v_of S p 1) = 1 then true else (if (r / 1000) = 0 then false else (if ((r % 1000) % 10) = 0 then false else (if (v / 10) = ((r % 1000) / 10) then true else false))))) else false) → jv_J x G 8 Q_ (md_M G o F A) 0 0 177 [(7, .int (bI wk)), (6, .int (bI wb)), (5, .int (nI (r % 1000))), (4, .int (nI (r / 1000))), (0, .ref o.2.1), (1, .int (nI p)), (2, .int (nI v)), (3, .int (nI r))] [.int (bI wo)] := by
        intro wo e_wo
        replace e_wo : wo = (wk && sOp (v_of S p 1) (r / 1000) v (r % 1000)) := e_wo.trans sOp_t
        exact jv_iret (v := bI wo) X dX2_isIn_177 (bI_nar _) hQ (Nat.le_of_ble_eq_true rfl) (Nat.le_of_ble_eq_true rfl) ⟨(by rw [e_wo, e_wk, e_wb]; rfl), rfl⟩
      refine jb_if_eq 176 X dX2_isIn_127 (by decide) (fun c127 => ?_) (fun c127 => ?_)
      · skip
        refine jv_iconst (v := nI 0) X dX2_isIn_176 rfl ?_
        exact j177_3 _ (if_neg (Bool.eq_false_iff.mp c127)).symm
      · skip
        refine jv_iload_n X dX2_isIn_130 6 rfl ?_
        refine jv_bipush (v := nI 10) X dX2_isIn_131 rfl ?_
        refine jv_irem (w := nI (v % 10)) X dX2_isIn_133 (ni_nz (by decide) (by decide)) (pk_rem (by omega) (by decide) (by decide)) ?_
        refine jn_if_eq 172 X dX2_isIn_134 (by decide) (by omega) (fun c134 => ?_) (fun c134 => ?_)
        · skip
          refine jv_iconst (v := nI 1) X dX2_isIn_172 rfl ?_
          refine jv_goto 177 X dX2_isIn_173 (by decide) ?_
          exact j177_3 _ ((if_pos c127).trans (if_pos c134)).symm
        · skip
          have hop := hW.op hp
          refine jv_aload_n X dX2_isIn_137 4 rfl ?_
          refine jv_iload_n X dX2_isIn_138 5 rfl ?_
          refine jv_iconst (v := nI 1) X dX2_isIn_139 rfl ?_
          refine jv_ask (jv_runV (As := [.int (nI p), .int (nI 1)]) (rest := []) X dX2_isIn_140 (c_X2_of hO hS p 1 (by omega) (by omega)) (lw_V q2115 q2117 qs42 q100 q2118) hd_X2_of md_M_o rfl (Nat.le_of_ble_eq_true rfl) (Nat.le_of_ble_eq_true rfl) (Nat.le_of_ble_eq_true rfl) (Nat.le_of_ble_eq_true rfl) rfl (Nat.le_of_ble_eq_true rfl)) ?_
          refine jv_iconst (v := nI 1) X dX2_isIn_143 rfl ?_
          refine jn_icmp_eq 172 X dX2_isIn_144 (by decide) (by omega) (by decide) (fun c144 => ?_) (fun c144 => ?_)
          · skip
            refine jv_iconst (v := nI 1) X dX2_isIn_172 rfl ?_
            refine jv_goto 177 X dX2_isIn_173 (by decide) ?_
            exact j177_3 _ (((if_pos c127).trans (if_neg c134)).trans (if_pos c144)).symm
          · skip
            have hop := hW.op hp
            refine jv_iload X dX2_isIn_147 3 rfl ?_
            refine jn_if_eq 176 X dX2_isIn_149 (by decide) (by omega) (fun c149 => ?_) (fun c149 => ?_)
            · skip
              refine jv_iconst (v := nI 0) X dX2_isIn_176 rfl ?_
              exact j177_3 _ ((((if_pos c127).trans (if_neg c134)).trans (if_neg c144)).trans (if_pos c149)).symm
            · skip
              refine jv_iload X dX2_isIn_152 2 rfl ?_
              refine jv_bipush (v := nI 10) X dX2_isIn_154 rfl ?_
              refine jv_irem (w := nI ((r % 1000) % 10)) X dX2_isIn_156 (ni_nz (by decide) (by decide)) (pk_rem (by omega) (by decide) (by decide)) ?_
              refine jn_if_eq 176 X dX2_isIn_157 (by decide) (by omega) (fun c157 => ?_) (fun c157 => ?_)
              · skip
                refine jv_iconst (v := nI 0) X dX2_isIn_176 rfl ?_
                exact j177_3 _ (((((if_pos c127).trans (if_neg c134)).trans (if_neg c144)).trans (if_neg c149)).trans (if_pos c157)).symm
              · skip
                refine jv_iload_n X dX2_isIn_160 6 rfl ?_
                refine jv_bipush (v := nI 10) X dX2_isIn_161 rfl ?_
                refine jv_idiv (w := nI (v / 10)) X dX2_isIn_163 (ni_nz (by decide) (by decide)) (pk_div (by omega) (by decide) (by decide)) ?_
                refine jv_iload X dX2_isIn_164 2 rfl ?_
                refine jv_bipush (v := nI 10) X dX2_isIn_166 rfl ?_
                refine jv_idiv (w := nI ((r % 1000) / 10)) X dX2_isIn_168 (ni_nz (by decide) (by decide)) (pk_div (by omega) (by decide) (by decide)) ?_
                refine jn_icmp_ne 176 X dX2_isIn_169 (by decide) (by omega) (by omega) (fun c169 => ?_) (fun c169 => ?_)
                · skip
                  refine jv_iconst (v := nI 0) X dX2_isIn_176 rfl ?_
                  exact j177_3 _ ((((((if_pos c127).trans (if_neg c134)).trans (if_neg c144)).trans (if_neg c149)).trans (if_neg c157)).trans (if_neg c169)).symm
                · skip
                  refine jv_iconst (v := nI 1) X dX2_isIn_172 rfl ?_
                  refine jv_goto 177 X dX2_isIn_173 (by decide) ?_
                  exact j177_3 _ ((((((if_pos c127).trans (if_neg c134)).trans (if_neg c144)).trans (if_neg c149)).trans (if_neg c157)).trans (if_pos c169)).symm
    refine jn_if_eq 118 X dX2_isIn_35 (by decide) (by omega) (fun c35 => ?_) (fun c35 => ?_)
    · skip
      refine jv_iconst (v := nI 1) X dX2_isIn_118 rfl ?_
      refine jv_goto 123 X dX2_isIn_119 (by decide) ?_
      exact j123_2 _ (if_pos c35).symm
    · skip
      refine jv_iload X dX2_isIn_38 2 rfl ?_
      refine jv_iconst (v := nI 1) X dX2_isIn_40 rfl ?_
      refine jn_icmp_ne 50 X dX2_isIn_41 (by decide) (by omega) (by decide) (fun c41 => ?_) (fun c41 => ?_)
      · skip
        refine jv_iload X dX2_isIn_50 2 rfl ?_
        refine jv_iconst (v := nI 2) X dX2_isIn_52 rfl ?_
        refine jn_icmp_ne 61 X dX2_isIn_53 (by decide) (by omega) (by decide) (fun c53 => ?_) (fun c53 => ?_)
        · skip
          refine jv_iload X dX2_isIn_61 2 rfl ?_
          refine jv_iconst (v := nI 3) X dX2_isIn_63 rfl ?_
          refine jn_icmp_ne 72 X dX2_isIn_64 (by decide) (by omega) (by decide) (fun c64 => ?_) (fun c64 => ?_)
          · skip
            refine jv_iload X dX2_isIn_72 2 rfl ?_
            refine jv_iconst (v := nI 4) X dX2_isIn_74 rfl ?_
            refine jn_icmp_ne 95 X dX2_isIn_75 (by decide) (by omega) (by decide) (fun c75 => ?_) (fun c75 => ?_)
            · skip
              refine jv_iload X dX2_isIn_95 2 rfl ?_
              refine jv_iconst (v := nI 5) X dX2_isIn_97 rfl ?_
              refine jn_icmp_ne 122 X dX2_isIn_98 (by decide) (by omega) (by decide) (fun c98 => ?_) (fun c98 => ?_)
              · skip
                refine jv_iconst (v := nI 0) X dX2_isIn_122 rfl ?_
                exact j123_2 _ ((((((if_neg c35).trans (if_neg c41)).trans (if_neg c53)).trans (if_neg c64)).trans (if_neg c75)).trans (if_neg c98)).symm
              · skip
                refine jv_iload X dX2_isIn_101 0 rfl ?_
                refine jb_if_ne 122 X dX2_isIn_103 (by decide) (fun c103 => ?_) (fun c103 => ?_)
                · skip
                  refine jv_iconst (v := nI 0) X dX2_isIn_122 rfl ?_
                  exact j123_2 _ (((((((if_neg c35).trans (if_neg c41)).trans (if_neg c53)).trans (if_neg c64)).trans (if_neg c75)).trans (if_pos c98)).trans (if_pos c103)).symm
                · skip
                  refine jv_iload_n X dX2_isIn_106 5 rfl ?_
                  refine jv_bipush (v := nI 10) X dX2_isIn_107 rfl ?_
                  refine jv_idiv (w := nI (v / 10)) X dX2_isIn_109 (ni_nz (by decide) (by decide)) (pk_div (by omega) (by decide) (by decide)) ?_
                  refine jv_iload X dX2_isIn_110 1 rfl ?_
                  refine jv_bipush (v := nI 10) X dX2_isIn_112 rfl ?_
                  refine jv_idiv (w := nI ((r % 1000) / 10)) X dX2_isIn_114 (ni_nz (by decide) (by decide)) (pk_div (by omega) (by decide) (by decide)) ?_
                  refine jn_icmp_ne 122 X dX2_isIn_115 (by decide) (by omega) (by omega) (fun c115 => ?_) (fun c115 => ?_)
                  · skip
                    refine jv_iconst (v := nI 0) X dX2_isIn_122 rfl ?_
                    exact j123_2 _ ((((((((if_neg c35).trans (if_neg c41)).trans (if_neg c53)).trans (if_neg c64)).trans (if_neg c75)).trans (if_pos c98)).trans (if_neg (Bool.eq_false_iff.mp c103))).trans (if_neg c115)).symm
                  · skip
                    refine jv_iconst (v := nI 1) X dX2_isIn_118 rfl ?_
                    refine jv_goto 123 X dX2_isIn_119 (by decide) ?_
                    exact j123_2 _ ((((((((if_neg c35).trans (if_neg c41)).trans (if_neg c53)).trans (if_neg c64)).trans (if_neg c75)).trans (if_pos c98)).trans (if_neg (Bool.eq_false_iff.mp c103))).trans (if_pos c115)).symm
            · skip
              refine jv_iload X dX2_isIn_78 0 rfl ?_
              refine jb_if_ne 95 X dX2_isIn_80 (by decide) (fun c80 => ?_) (fun c80 => ?_)
              · skip
                refine jv_iload X dX2_isIn_95 2 rfl ?_
                refine jv_iconst (v := nI 5) X dX2_isIn_97 rfl ?_
                refine jn_icmp_ne 122 X dX2_isIn_98 (by decide) (by omega) (by decide) (fun c98 => ?_) (fun c98 => ?_)
                · skip
                  refine jv_iconst (v := nI 0) X dX2_isIn_122 rfl ?_
                  exact j123_2 _ (((((((if_neg c35).trans (if_neg c41)).trans (if_neg c53)).trans (if_neg c64)).trans (if_pos c75)).trans (if_pos c80)).trans (if_neg c98)).symm
                · skip
                  refine jv_iload X dX2_isIn_101 0 rfl ?_
                  refine jb_if_ne 122 X dX2_isIn_103 (by decide) (fun c103 => ?_) (fun c103 => ?_)
                  · skip
                    refine jv_iconst (v := nI 0) X dX2_isIn_122 rfl ?_
                    exact j123_2 _ ((((((((if_neg c35).trans (if_neg c41)).trans (if_neg c53)).trans (if_neg c64)).trans (if_pos c75)).trans (if_pos c80)).trans (if_pos c98)).trans (if_pos c103)).symm
                  · skip
                    refine jv_iload_n X dX2_isIn_106 5 rfl ?_
                    refine jv_bipush (v := nI 10) X dX2_isIn_107 rfl ?_
                    refine jv_idiv (w := nI (v / 10)) X dX2_isIn_109 (ni_nz (by decide) (by decide)) (pk_div (by omega) (by decide) (by decide)) ?_
                    refine jv_iload X dX2_isIn_110 1 rfl ?_
                    refine jv_bipush (v := nI 10) X dX2_isIn_112 rfl ?_
                    refine jv_idiv (w := nI ((r % 1000) / 10)) X dX2_isIn_114 (ni_nz (by decide) (by decide)) (pk_div (by omega) (by decide) (by decide)) ?_
                    refine jn_icmp_ne 122 X dX2_isIn_115 (by decide) (by omega) (by omega) (fun c115 => ?_) (fun c115 => ?_)
                    · skip
                      refine jv_iconst (v := nI 0) X dX2_isIn_122 rfl ?_
                      exact j123_2 _ (((((((((if_neg c35).trans (if_neg c41)).trans (if_neg c53)).trans (if_neg c64)).trans (if_pos c75)).trans (if_pos c80)).trans (if_pos c98)).trans (if_neg (Bool.eq_false_iff.mp c103))).trans (if_neg c115)).symm
                    · skip
                      refine jv_iconst (v := nI 1) X dX2_isIn_118 rfl ?_
                      refine jv_goto 123 X dX2_isIn_119 (by decide) ?_
                      exact j123_2 _ (((((((((if_neg c35).trans (if_neg c41)).trans (if_neg c53)).trans (if_neg c64)).trans (if_pos c75)).trans (if_pos c80)).trans (if_pos c98)).trans (if_neg (Bool.eq_false_iff.mp c103))).trans (if_pos c115)).symm
              · skip
                refine jv_iload_n X dX2_isIn_83 5 rfl ?_
                refine jv_bipush (v := nI 100) X dX2_isIn_84 rfl ?_
                refine jv_idiv (w := nI (v / 100)) X dX2_isIn_86 (ni_nz (by decide) (by decide)) (pk_div (by omega) (by decide) (by decide)) ?_
                refine jv_iload X dX2_isIn_87 1 rfl ?_
                refine jv_bipush (v := nI 100) X dX2_isIn_89 rfl ?_
                refine jv_idiv (w := nI ((r % 1000) / 100)) X dX2_isIn_91 (ni_nz (by decide) (by decide)) (pk_div (by omega) (by decide) (by decide)) ?_
                refine jn_icmp_eq 118 X dX2_isIn_92 (by decide) (by omega) (by omega) (fun c92 => ?_) (fun c92 => ?_)
                · skip
                  refine jv_iconst (v := nI 1) X dX2_isIn_118 rfl ?_
                  refine jv_goto 123 X dX2_isIn_119 (by decide) ?_
                  exact j123_2 _ (((((((if_neg c35).trans (if_neg c41)).trans (if_neg c53)).trans (if_neg c64)).trans (if_pos c75)).trans (if_neg (Bool.eq_false_iff.mp c80))).trans (if_pos c92)).symm
                · skip
                  refine jv_iload X dX2_isIn_95 2 rfl ?_
                  refine jv_iconst (v := nI 5) X dX2_isIn_97 rfl ?_
                  refine jn_icmp_ne 122 X dX2_isIn_98 (by decide) (by omega) (by decide) (fun c98 => ?_) (fun c98 => ?_)
                  · skip
                    refine jv_iconst (v := nI 0) X dX2_isIn_122 rfl ?_
                    exact j123_2 _ ((((((((if_neg c35).trans (if_neg c41)).trans (if_neg c53)).trans (if_neg c64)).trans (if_pos c75)).trans (if_neg (Bool.eq_false_iff.mp c80))).trans (if_neg c92)).trans (if_neg c98)).symm
                  · skip
                    refine jv_iload X dX2_isIn_101 0 rfl ?_
                    refine jb_if_ne 122 X dX2_isIn_103 (by decide) (fun c103 => ?_) (fun c103 => ?_)
                    · skip
                      refine jv_iconst (v := nI 0) X dX2_isIn_122 rfl ?_
                      exact j123_2 _ (((((((((if_neg c35).trans (if_neg c41)).trans (if_neg c53)).trans (if_neg c64)).trans (if_pos c75)).trans (if_neg (Bool.eq_false_iff.mp c80))).trans (if_neg c92)).trans (if_pos c98)).trans (if_pos c103)).symm
                    · skip
                      refine jv_iload_n X dX2_isIn_106 5 rfl ?_
                      refine jv_bipush (v := nI 10) X dX2_isIn_107 rfl ?_
                      refine jv_idiv (w := nI (v / 10)) X dX2_isIn_109 (ni_nz (by decide) (by decide)) (pk_div (by omega) (by decide) (by decide)) ?_
                      refine jv_iload X dX2_isIn_110 1 rfl ?_
                      refine jv_bipush (v := nI 10) X dX2_isIn_112 rfl ?_
                      refine jv_idiv (w := nI ((r % 1000) / 10)) X dX2_isIn_114 (ni_nz (by decide) (by decide)) (pk_div (by omega) (by decide) (by decide)) ?_
                      refine jn_icmp_ne 122 X dX2_isIn_115 (by decide) (by omega) (by omega) (fun c115 => ?_) (fun c115 => ?_)
                      · skip
                        refine jv_iconst (v := nI 0) X dX2_isIn_122 rfl ?_
                        exact j123_2 _ ((((((((((if_neg c35).trans (if_neg c41)).trans (if_neg c53)).trans (if_neg c64)).trans (if_pos c75)).trans (if_neg (Bool.eq_false_iff.mp c80))).trans (if_neg c92)).trans (if_pos c98)).trans (if_neg (Bool.eq_false_iff.mp c103))).trans (if_neg c115)).symm
                      · skip
                        refine jv_iconst (v := nI 1) X dX2_isIn_118 rfl ?_
                        refine jv_goto 123 X dX2_isIn_119 (by decide) ?_
                        exact j123_2 _ ((((((((((if_neg c35).trans (if_neg c41)).trans (if_neg c53)).trans (if_neg c64)).trans (if_pos c75)).trans (if_neg (Bool.eq_false_iff.mp c80))).trans (if_neg c92)).trans (if_pos c98)).trans (if_neg (Bool.eq_false_iff.mp c103))).trans (if_pos c115)).symm
          · skip
            refine jv_iload X dX2_isIn_67 0 rfl ?_
            refine jb_if_eq 118 X dX2_isIn_69 (by decide) (fun c69 => ?_) (fun c69 => ?_)
            · skip
              refine jv_iconst (v := nI 1) X dX2_isIn_118 rfl ?_
              refine jv_goto 123 X dX2_isIn_119 (by decide) ?_
              exact j123_2 _ (((((if_neg c35).trans (if_neg c41)).trans (if_neg c53)).trans (if_pos c64)).trans (if_neg (Bool.eq_false_iff.mp c69))).symm
            · skip
              refine jv_iload X dX2_isIn_72 2 rfl ?_
              refine jv_iconst (v := nI 4) X dX2_isIn_74 rfl ?_
              refine jn_icmp_ne 95 X dX2_isIn_75 (by decide) (by omega) (by decide) (fun c75 => ?_) (fun c75 => ?_)
              · skip
                refine jv_iload X dX2_isIn_95 2 rfl ?_
                refine jv_iconst (v := nI 5) X dX2_isIn_97 rfl ?_
                refine jn_icmp_ne 122 X dX2_isIn_98 (by decide) (by omega) (by decide) (fun c98 => ?_) (fun c98 => ?_)
                · skip
                  refine jv_iconst (v := nI 0) X dX2_isIn_122 rfl ?_
                  exact j123_2 _ (((((((if_neg c35).trans (if_neg c41)).trans (if_neg c53)).trans (if_pos c64)).trans (if_pos c69)).trans (if_neg c75)).trans (if_neg c98)).symm
                · skip
                  refine jv_iload X dX2_isIn_101 0 rfl ?_
                  refine jb_if_ne 122 X dX2_isIn_103 (by decide) (fun c103 => ?_) (fun c103 => ?_)
                  · skip
                    refine jv_iconst (v := nI 0) X dX2_isIn_122 rfl ?_
                    exact j123_2 _ ((((((((if_neg c35).trans (if_neg c41)).trans (if_neg c53)).trans (if_pos c64)).trans (if_pos c69)).trans (if_neg c75)).trans (if_pos c98)).trans (if_pos c103)).symm
                  · skip
                    refine jv_iload_n X dX2_isIn_106 5 rfl ?_
                    refine jv_bipush (v := nI 10) X dX2_isIn_107 rfl ?_
                    refine jv_idiv (w := nI (v / 10)) X dX2_isIn_109 (ni_nz (by decide) (by decide)) (pk_div (by omega) (by decide) (by decide)) ?_
                    refine jv_iload X dX2_isIn_110 1 rfl ?_
                    refine jv_bipush (v := nI 10) X dX2_isIn_112 rfl ?_
                    refine jv_idiv (w := nI ((r % 1000) / 10)) X dX2_isIn_114 (ni_nz (by decide) (by decide)) (pk_div (by omega) (by decide) (by decide)) ?_
                    refine jn_icmp_ne 122 X dX2_isIn_115 (by decide) (by omega) (by omega) (fun c115 => ?_) (fun c115 => ?_)
                    · skip
                      refine jv_iconst (v := nI 0) X dX2_isIn_122 rfl ?_
                      exact j123_2 _ (((((((((if_neg c35).trans (if_neg c41)).trans (if_neg c53)).trans (if_pos c64)).trans (if_pos c69)).trans (if_neg c75)).trans (if_pos c98)).trans (if_neg (Bool.eq_false_iff.mp c103))).trans (if_neg c115)).symm
                    · skip
                      refine jv_iconst (v := nI 1) X dX2_isIn_118 rfl ?_
                      refine jv_goto 123 X dX2_isIn_119 (by decide) ?_
                      exact j123_2 _ (((((((((if_neg c35).trans (if_neg c41)).trans (if_neg c53)).trans (if_pos c64)).trans (if_pos c69)).trans (if_neg c75)).trans (if_pos c98)).trans (if_neg (Bool.eq_false_iff.mp c103))).trans (if_pos c115)).symm
              · skip
                refine jv_iload X dX2_isIn_78 0 rfl ?_
                refine jb_if_ne 95 X dX2_isIn_80 (by decide) (fun c80 => ?_) (fun c80 => ?_)
                · skip
                  refine jv_iload X dX2_isIn_95 2 rfl ?_
                  refine jv_iconst (v := nI 5) X dX2_isIn_97 rfl ?_
                  refine jn_icmp_ne 122 X dX2_isIn_98 (by decide) (by omega) (by decide) (fun c98 => ?_) (fun c98 => ?_)
                  · skip
                    refine jv_iconst (v := nI 0) X dX2_isIn_122 rfl ?_
                    exact j123_2 _ ((((((((if_neg c35).trans (if_neg c41)).trans (if_neg c53)).trans (if_pos c64)).trans (if_pos c69)).trans (if_pos c75)).trans (if_pos c80)).trans (if_neg c98)).symm
                  · skip
                    refine jv_iload X dX2_isIn_101 0 rfl ?_
                    refine jb_if_ne 122 X dX2_isIn_103 (by decide) (fun c103 => ?_) (fun c103 => ?_)
                    · skip
                      refine jv_iconst (v := nI 0) X dX2_isIn_122 rfl ?_
                      exact j123_2 _ (((((((((if_neg c35).trans (if_neg c41)).trans (if_neg c53)).trans (if_pos c64)).trans (if_pos c69)).trans (if_pos c75)).trans (if_pos c80)).trans (if_pos c98)).trans (if_pos c103)).symm
                    · skip
                      refine jv_iload_n X dX2_isIn_106 5 rfl ?_
                      refine jv_bipush (v := nI 10) X dX2_isIn_107 rfl ?_
                      refine jv_idiv (w := nI (v / 10)) X dX2_isIn_109 (ni_nz (by decide) (by decide)) (pk_div (by omega) (by decide) (by decide)) ?_
                      refine jv_iload X dX2_isIn_110 1 rfl ?_
                      refine jv_bipush (v := nI 10) X dX2_isIn_112 rfl ?_
                      refine jv_idiv (w := nI ((r % 1000) / 10)) X dX2_isIn_114 (ni_nz (by decide) (by decide)) (pk_div (by omega) (by decide) (by decide)) ?_
                      refine jn_icmp_ne 122 X dX2_isIn_115 (by decide) (by omega) (by omega) (fun c115 => ?_) (fun c115 => ?_)
                      · skip
                        refine jv_iconst (v := nI 0) X dX2_isIn_122 rfl ?_
                        exact j123_2 _ ((((((((((if_neg c35).trans (if_neg c41)).trans (if_neg c53)).trans (if_pos c64)).trans (if_pos c69)).trans (if_pos c75)).trans (if_pos c80)).trans (if_pos c98)).trans (if_neg (Bool.eq_false_iff.mp c103))).trans (if_neg c115)).symm
                      · skip
                        refine jv_iconst (v := nI 1) X dX2_isIn_118 rfl ?_
                        refine jv_goto 123 X dX2_isIn_119 (by decide) ?_
                        exact j123_2 _ ((((((((((if_neg c35).trans (if_neg c41)).trans (if_neg c53)).trans (if_pos c64)).trans (if_pos c69)).trans (if_pos c75)).trans (if_pos c80)).trans (if_pos c98)).trans (if_neg (Bool.eq_false_iff.mp c103))).trans (if_pos c115)).symm
                · skip
                  refine jv_iload_n X dX2_isIn_83 5 rfl ?_
                  refine jv_bipush (v := nI 100) X dX2_isIn_84 rfl ?_
                  refine jv_idiv (w := nI (v / 100)) X dX2_isIn_86 (ni_nz (by decide) (by decide)) (pk_div (by omega) (by decide) (by decide)) ?_
                  refine jv_iload X dX2_isIn_87 1 rfl ?_
                  refine jv_bipush (v := nI 100) X dX2_isIn_89 rfl ?_
                  refine jv_idiv (w := nI ((r % 1000) / 100)) X dX2_isIn_91 (ni_nz (by decide) (by decide)) (pk_div (by omega) (by decide) (by decide)) ?_
                  refine jn_icmp_eq 118 X dX2_isIn_92 (by decide) (by omega) (by omega) (fun c92 => ?_) (fun c92 => ?_)
                  · skip
                    refine jv_iconst (v := nI 1) X dX2_isIn_118 rfl ?_
                    refine jv_goto 123 X dX2_isIn_119 (by decide) ?_
                    exact j123_2 _ ((((((((if_neg c35).trans (if_neg c41)).trans (if_neg c53)).trans (if_pos c64)).trans (if_pos c69)).trans (if_pos c75)).trans (if_neg (Bool.eq_false_iff.mp c80))).trans (if_pos c92)).symm
                  · skip
                    refine jv_iload X dX2_isIn_95 2 rfl ?_
                    refine jv_iconst (v := nI 5) X dX2_isIn_97 rfl ?_
                    refine jn_icmp_ne 122 X dX2_isIn_98 (by decide) (by omega) (by decide) (fun c98 => ?_) (fun c98 => ?_)
                    · skip
                      refine jv_iconst (v := nI 0) X dX2_isIn_122 rfl ?_
                      exact j123_2 _ (((((((((if_neg c35).trans (if_neg c41)).trans (if_neg c53)).trans (if_pos c64)).trans (if_pos c69)).trans (if_pos c75)).trans (if_neg (Bool.eq_false_iff.mp c80))).trans (if_neg c92)).trans (if_neg c98)).symm
                    · skip
                      refine jv_iload X dX2_isIn_101 0 rfl ?_
                      refine jb_if_ne 122 X dX2_isIn_103 (by decide) (fun c103 => ?_) (fun c103 => ?_)
                      · skip
                        refine jv_iconst (v := nI 0) X dX2_isIn_122 rfl ?_
                        exact j123_2 _ ((((((((((if_neg c35).trans (if_neg c41)).trans (if_neg c53)).trans (if_pos c64)).trans (if_pos c69)).trans (if_pos c75)).trans (if_neg (Bool.eq_false_iff.mp c80))).trans (if_neg c92)).trans (if_pos c98)).trans (if_pos c103)).symm
                      · skip
                        refine jv_iload_n X dX2_isIn_106 5 rfl ?_
                        refine jv_bipush (v := nI 10) X dX2_isIn_107 rfl ?_
                        refine jv_idiv (w := nI (v / 10)) X dX2_isIn_109 (ni_nz (by decide) (by decide)) (pk_div (by omega) (by decide) (by decide)) ?_
                        refine jv_iload X dX2_isIn_110 1 rfl ?_
                        refine jv_bipush (v := nI 10) X dX2_isIn_112 rfl ?_
                        refine jv_idiv (w := nI ((r % 1000) / 10)) X dX2_isIn_114 (ni_nz (by decide) (by decide)) (pk_div (by omega) (by decide) (by decide)) ?_
                        refine jn_icmp_ne 122 X dX2_isIn_115 (by decide) (by omega) (by omega) (fun c115 => ?_) (fun c115 => ?_)
                        · skip
                          refine jv_iconst (v := nI 0) X dX2_isIn_122 rfl ?_
                          exact j123_2 _ (((((((((((if_neg c35).trans (if_neg c41)).trans (if_neg c53)).trans (if_pos c64)).trans (if_pos c69)).trans (if_pos c75)).trans (if_neg (Bool.eq_false_iff.mp c80))).trans (if_neg c92)).trans (if_pos c98)).trans (if_neg (Bool.eq_false_iff.mp c103))).trans (if_neg c115)).symm
                        · skip
                          refine jv_iconst (v := nI 1) X dX2_isIn_118 rfl ?_
                          refine jv_goto 123 X dX2_isIn_119 (by decide) ?_
                          exact j123_2 _ (((((((((((if_neg c35).trans (if_neg c41)).trans (if_neg c53)).trans (if_pos c64)).trans (if_pos c69)).trans (if_pos c75)).trans (if_neg (Bool.eq_false_iff.mp c80))).trans (if_neg c92)).trans (if_pos c98)).trans (if_neg (Bool.eq_false_iff.mp c103))).trans (if_pos c115)).symm
        · skip
          refine jv_iload X dX2_isIn_56 0 rfl ?_
          refine jb_if_ne 118 X dX2_isIn_58 (by decide) (fun c58 => ?_) (fun c58 => ?_)
          · skip
            refine jv_iconst (v := nI 1) X dX2_isIn_118 rfl ?_
            refine jv_goto 123 X dX2_isIn_119 (by decide) ?_
            exact j123_2 _ ((((if_neg c35).trans (if_neg c41)).trans (if_pos c53)).trans (if_pos c58)).symm
          · skip
            refine jv_iload X dX2_isIn_61 2 rfl ?_
            refine jv_iconst (v := nI 3) X dX2_isIn_63 rfl ?_
            refine jn_icmp_ne 72 X dX2_isIn_64 (by decide) (by omega) (by decide) (fun c64 => ?_) (fun c64 => ?_)
            · skip
              refine jv_iload X dX2_isIn_72 2 rfl ?_
              refine jv_iconst (v := nI 4) X dX2_isIn_74 rfl ?_
              refine jn_icmp_ne 95 X dX2_isIn_75 (by decide) (by omega) (by decide) (fun c75 => ?_) (fun c75 => ?_)
              · skip
                refine jv_iload X dX2_isIn_95 2 rfl ?_
                refine jv_iconst (v := nI 5) X dX2_isIn_97 rfl ?_
                refine jn_icmp_ne 122 X dX2_isIn_98 (by decide) (by omega) (by decide) (fun c98 => ?_) (fun c98 => ?_)
                · skip
                  refine jv_iconst (v := nI 0) X dX2_isIn_122 rfl ?_
                  exact j123_2 _ (((((((if_neg c35).trans (if_neg c41)).trans (if_pos c53)).trans (if_neg (Bool.eq_false_iff.mp c58))).trans (if_neg c64)).trans (if_neg c75)).trans (if_neg c98)).symm
                · skip
                  refine jv_iload X dX2_isIn_101 0 rfl ?_
                  refine jb_if_ne 122 X dX2_isIn_103 (by decide) (fun c103 => ?_) (fun c103 => ?_)
                  · skip
                    refine jv_iconst (v := nI 0) X dX2_isIn_122 rfl ?_
                    exact j123_2 _ ((((((((if_neg c35).trans (if_neg c41)).trans (if_pos c53)).trans (if_neg (Bool.eq_false_iff.mp c58))).trans (if_neg c64)).trans (if_neg c75)).trans (if_pos c98)).trans (if_pos c103)).symm
                  · skip
                    refine jv_iload_n X dX2_isIn_106 5 rfl ?_
                    refine jv_bipush (v := nI 10) X dX2_isIn_107 rfl ?_
                    refine jv_idiv (w := nI (v / 10)) X dX2_isIn_109 (ni_nz (by decide) (by decide)) (pk_div (by omega) (by decide) (by decide)) ?_
                    refine jv_iload X dX2_isIn_110 1 rfl ?_
                    refine jv_bipush (v := nI 10) X dX2_isIn_112 rfl ?_
                    refine jv_idiv (w := nI ((r % 1000) / 10)) X dX2_isIn_114 (ni_nz (by decide) (by decide)) (pk_div (by omega) (by decide) (by decide)) ?_
                    refine jn_icmp_ne 122 X dX2_isIn_115 (by decide) (by omega) (by omega) (fun c115 => ?_) (fun c115 => ?_)
                    · skip
                      refine jv_iconst (v := nI 0) X dX2_isIn_122 rfl ?_
                      exact j123_2 _ (((((((((if_neg c35).trans (if_neg c41)).trans (if_pos c53)).trans (if_neg (Bool.eq_false_iff.mp c58))).trans (if_neg c64)).trans (if_neg c75)).trans (if_pos c98)).trans (if_neg (Bool.eq_false_iff.mp c103))).trans (if_neg c115)).symm
                    · skip
                      refine jv_iconst (v := nI 1) X dX2_isIn_118 rfl ?_
                      refine jv_goto 123 X dX2_isIn_119 (by decide) ?_
                      exact j123_2 _ (((((((((if_neg c35).trans (if_neg c41)).trans (if_pos c53)).trans (if_neg (Bool.eq_false_iff.mp c58))).trans (if_neg c64)).trans (if_neg c75)).trans (if_pos c98)).trans (if_neg (Bool.eq_false_iff.mp c103))).trans (if_pos c115)).symm
              · skip
                refine jv_iload X dX2_isIn_78 0 rfl ?_
                refine jb_if_ne 95 X dX2_isIn_80 (by decide) (fun c80 => ?_) (fun c80 => ?_)
                · skip
                  refine jv_iload X dX2_isIn_95 2 rfl ?_
                  refine jv_iconst (v := nI 5) X dX2_isIn_97 rfl ?_
                  refine jn_icmp_ne 122 X dX2_isIn_98 (by decide) (by omega) (by decide) (fun c98 => ?_) (fun c98 => ?_)
                  · skip
                    refine jv_iconst (v := nI 0) X dX2_isIn_122 rfl ?_
                    exact j123_2 _ ((((((((if_neg c35).trans (if_neg c41)).trans (if_pos c53)).trans (if_neg (Bool.eq_false_iff.mp c58))).trans (if_neg c64)).trans (if_pos c75)).trans (if_pos c80)).trans (if_neg c98)).symm
                  · skip
                    refine jv_iload X dX2_isIn_101 0 rfl ?_
                    refine jb_if_ne 122 X dX2_isIn_103 (by decide) (fun c103 => ?_) (fun c103 => ?_)
                    · skip
                      refine jv_iconst (v := nI 0) X dX2_isIn_122 rfl ?_
                      exact j123_2 _ (((((((((if_neg c35).trans (if_neg c41)).trans (if_pos c53)).trans (if_neg (Bool.eq_false_iff.mp c58))).trans (if_neg c64)).trans (if_pos c75)).trans (if_pos c80)).trans (if_pos c98)).trans (if_pos c103)).symm
                    · skip
                      refine jv_iload_n X dX2_isIn_106 5 rfl ?_
                      refine jv_bipush (v := nI 10) X dX2_isIn_107 rfl ?_
                      refine jv_idiv (w := nI (v / 10)) X dX2_isIn_109 (ni_nz (by decide) (by decide)) (pk_div (by omega) (by decide) (by decide)) ?_
                      refine jv_iload X dX2_isIn_110 1 rfl ?_
                      refine jv_bipush (v := nI 10) X dX2_isIn_112 rfl ?_
                      refine jv_idiv (w := nI ((r % 1000) / 10)) X dX2_isIn_114 (ni_nz (by decide) (by decide)) (pk_div (by omega) (by decide) (by decide)) ?_
                      refine jn_icmp_ne 122 X dX2_isIn_115 (by decide) (by omega) (by omega) (fun c115 => ?_) (fun c115 => ?_)
                      · skip
                        refine jv_iconst (v := nI 0) X dX2_isIn_122 rfl ?_
                        exact j123_2 _ ((((((((((if_neg c35).trans (if_neg c41)).trans (if_pos c53)).trans (if_neg (Bool.eq_false_iff.mp c58))).trans (if_neg c64)).trans (if_pos c75)).trans (if_pos c80)).trans (if_pos c98)).trans (if_neg (Bool.eq_false_iff.mp c103))).trans (if_neg c115)).symm
                      · skip
                        refine jv_iconst (v := nI 1) X dX2_isIn_118 rfl ?_
                        refine jv_goto 123 X dX2_isIn_119 (by decide) ?_
                        exact j123_2 _ ((((((((((if_neg c35).trans (if_neg c41)).trans (if_pos c53)).trans (if_neg (Bool.eq_false_iff.mp c58))).trans (if_neg c64)).trans (if_pos c75)).trans (if_pos c80)).trans (if_pos c98)).trans (if_neg (Bool.eq_false_iff.mp c103))).trans (if_pos c115)).symm
                · skip
                  refine jv_iload_n X dX2_isIn_83 5 rfl ?_
                  refine jv_bipush (v := nI 100) X dX2_isIn_84 rfl ?_
                  refine jv_idiv (w := nI (v / 100)) X dX2_isIn_86 (ni_nz (by decide) (by decide)) (pk_div (by omega) (by decide) (by decide)) ?_
                  refine jv_iload X dX2_isIn_87 1 rfl ?_
                  refine jv_bipush (v := nI 100) X dX2_isIn_89 rfl ?_
                  refine jv_idiv (w := nI ((r % 1000) / 100)) X dX2_isIn_91 (ni_nz (by decide) (by decide)) (pk_div (by omega) (by decide) (by decide)) ?_
                  refine jn_icmp_eq 118 X dX2_isIn_92 (by decide) (by omega) (by omega) (fun c92 => ?_) (fun c92 => ?_)
                  · skip
                    refine jv_iconst (v := nI 1) X dX2_isIn_118 rfl ?_
                    refine jv_goto 123 X dX2_isIn_119 (by decide) ?_
                    exact j123_2 _ ((((((((if_neg c35).trans (if_neg c41)).trans (if_pos c53)).trans (if_neg (Bool.eq_false_iff.mp c58))).trans (if_neg c64)).trans (if_pos c75)).trans (if_neg (Bool.eq_false_iff.mp c80))).trans (if_pos c92)).symm
                  · skip
                    refine jv_iload X dX2_isIn_95 2 rfl ?_
                    refine jv_iconst (v := nI 5) X dX2_isIn_97 rfl ?_
                    refine jn_icmp_ne 122 X dX2_isIn_98 (by decide) (by omega) (by decide) (fun c98 => ?_) (fun c98 => ?_)
                    · skip
                      refine jv_iconst (v := nI 0) X dX2_isIn_122 rfl ?_
                      exact j123_2 _ (((((((((if_neg c35).trans (if_neg c41)).trans (if_pos c53)).trans (if_neg (Bool.eq_false_iff.mp c58))).trans (if_neg c64)).trans (if_pos c75)).trans (if_neg (Bool.eq_false_iff.mp c80))).trans (if_neg c92)).trans (if_neg c98)).symm
                    · skip
                      refine jv_iload X dX2_isIn_101 0 rfl ?_
                      refine jb_if_ne 122 X dX2_isIn_103 (by decide) (fun c103 => ?_) (fun c103 => ?_)
                      · skip
                        refine jv_iconst (v := nI 0) X dX2_isIn_122 rfl ?_
                        exact j123_2 _ ((((((((((if_neg c35).trans (if_neg c41)).trans (if_pos c53)).trans (if_neg (Bool.eq_false_iff.mp c58))).trans (if_neg c64)).trans (if_pos c75)).trans (if_neg (Bool.eq_false_iff.mp c80))).trans (if_neg c92)).trans (if_pos c98)).trans (if_pos c103)).symm
                      · skip
                        refine jv_iload_n X dX2_isIn_106 5 rfl ?_
                        refine jv_bipush (v := nI 10) X dX2_isIn_107 rfl ?_
                        refine jv_idiv (w := nI (v / 10)) X dX2_isIn_109 (ni_nz (by decide) (by decide)) (pk_div (by omega) (by decide) (by decide)) ?_
                        refine jv_iload X dX2_isIn_110 1 rfl ?_
                        refine jv_bipush (v := nI 10) X dX2_isIn_112 rfl ?_
                        refine jv_idiv (w := nI ((r % 1000) / 10)) X dX2_isIn_114 (ni_nz (by decide) (by decide)) (pk_div (by omega) (by decide) (by decide)) ?_
                        refine jn_icmp_ne 122 X dX2_isIn_115 (by decide) (by omega) (by omega) (fun c115 => ?_) (fun c115 => ?_)
                        · skip
                          refine jv_iconst (v := nI 0) X dX2_isIn_122 rfl ?_
                          exact j123_2 _ (((((((((((if_neg c35).trans (if_neg c41)).trans (if_pos c53)).trans (if_neg (Bool.eq_false_iff.mp c58))).trans (if_neg c64)).trans (if_pos c75)).trans (if_neg (Bool.eq_false_iff.mp c80))).trans (if_neg c92)).trans (if_pos c98)).trans (if_neg (Bool.eq_false_iff.mp c103))).trans (if_neg c115)).symm
                        · skip
                          refine jv_iconst (v := nI 1) X dX2_isIn_118 rfl ?_
                          refine jv_goto 123 X dX2_isIn_119 (by decide) ?_
                          exact j123_2 _ (((((((((((if_neg c35).trans (if_neg c41)).trans (if_pos c53)).trans (if_neg (Bool.eq_false_iff.mp c58))).trans (if_neg c64)).trans (if_pos c75)).trans (if_neg (Bool.eq_false_iff.mp c80))).trans (if_neg c92)).trans (if_pos c98)).trans (if_neg (Bool.eq_false_iff.mp c103))).trans (if_pos c115)).symm
            · skip
              refine jv_iload X dX2_isIn_67 0 rfl ?_
              refine jb_if_eq 118 X dX2_isIn_69 (by decide) (fun c69 => ?_) (fun c69 => ?_)
              · skip
                refine jv_iconst (v := nI 1) X dX2_isIn_118 rfl ?_
                refine jv_goto 123 X dX2_isIn_119 (by decide) ?_
                exact j123_2 _ ((((((if_neg c35).trans (if_neg c41)).trans (if_pos c53)).trans (if_neg (Bool.eq_false_iff.mp c58))).trans (if_pos c64)).trans (if_neg (Bool.eq_false_iff.mp c69))).symm
              · skip
                refine jv_iload X dX2_isIn_72 2 rfl ?_
                refine jv_iconst (v := nI 4) X dX2_isIn_74 rfl ?_
                refine jn_icmp_ne 95 X dX2_isIn_75 (by decide) (by omega) (by decide) (fun c75 => ?_) (fun c75 => ?_)
                · skip
                  refine jv_iload X dX2_isIn_95 2 rfl ?_
                  refine jv_iconst (v := nI 5) X dX2_isIn_97 rfl ?_
                  refine jn_icmp_ne 122 X dX2_isIn_98 (by decide) (by omega) (by decide) (fun c98 => ?_) (fun c98 => ?_)
                  · skip
                    refine jv_iconst (v := nI 0) X dX2_isIn_122 rfl ?_
                    exact j123_2 _ ((((((((if_neg c35).trans (if_neg c41)).trans (if_pos c53)).trans (if_neg (Bool.eq_false_iff.mp c58))).trans (if_pos c64)).trans (if_pos c69)).trans (if_neg c75)).trans (if_neg c98)).symm
                  · skip
                    refine jv_iload X dX2_isIn_101 0 rfl ?_
                    refine jb_if_ne 122 X dX2_isIn_103 (by decide) (fun c103 => ?_) (fun c103 => ?_)
                    · skip
                      refine jv_iconst (v := nI 0) X dX2_isIn_122 rfl ?_
                      exact j123_2 _ (((((((((if_neg c35).trans (if_neg c41)).trans (if_pos c53)).trans (if_neg (Bool.eq_false_iff.mp c58))).trans (if_pos c64)).trans (if_pos c69)).trans (if_neg c75)).trans (if_pos c98)).trans (if_pos c103)).symm
                    · skip
                      refine jv_iload_n X dX2_isIn_106 5 rfl ?_
                      refine jv_bipush (v := nI 10) X dX2_isIn_107 rfl ?_
                      refine jv_idiv (w := nI (v / 10)) X dX2_isIn_109 (ni_nz (by decide) (by decide)) (pk_div (by omega) (by decide) (by decide)) ?_
                      refine jv_iload X dX2_isIn_110 1 rfl ?_
                      refine jv_bipush (v := nI 10) X dX2_isIn_112 rfl ?_
                      refine jv_idiv (w := nI ((r % 1000) / 10)) X dX2_isIn_114 (ni_nz (by decide) (by decide)) (pk_div (by omega) (by decide) (by decide)) ?_
                      refine jn_icmp_ne 122 X dX2_isIn_115 (by decide) (by omega) (by omega) (fun c115 => ?_) (fun c115 => ?_)
                      · skip
                        refine jv_iconst (v := nI 0) X dX2_isIn_122 rfl ?_
                        exact j123_2 _ ((((((((((if_neg c35).trans (if_neg c41)).trans (if_pos c53)).trans (if_neg (Bool.eq_false_iff.mp c58))).trans (if_pos c64)).trans (if_pos c69)).trans (if_neg c75)).trans (if_pos c98)).trans (if_neg (Bool.eq_false_iff.mp c103))).trans (if_neg c115)).symm
                      · skip
                        refine jv_iconst (v := nI 1) X dX2_isIn_118 rfl ?_
                        refine jv_goto 123 X dX2_isIn_119 (by decide) ?_
                        exact j123_2 _ ((((((((((if_neg c35).trans (if_neg c41)).trans (if_pos c53)).trans (if_neg (Bool.eq_false_iff.mp c58))).trans (if_pos c64)).trans (if_pos c69)).trans (if_neg c75)).trans (if_pos c98)).trans (if_neg (Bool.eq_false_iff.mp c103))).trans (if_pos c115)).symm
                · skip
                  refine jv_iload X dX2_isIn_78 0 rfl ?_
                  refine jb_if_ne 95 X dX2_isIn_80 (by decide) (fun c80 => ?_) (fun c80 => ?_)
                  · skip
                    refine jv_iload X dX2_isIn_95 2 rfl ?_
                    refine jv_iconst (v := nI 5) X dX2_isIn_97 rfl ?_
                    refine jn_icmp_ne 122 X dX2_isIn_98 (by decide) (by omega) (by decide) (fun c98 => ?_) (fun c98 => ?_)
                    · skip
                      refine jv_iconst (v := nI 0) X dX2_isIn_122 rfl ?_
                      exact j123_2 _ (((((((((if_neg c35).trans (if_neg c41)).trans (if_pos c53)).trans (if_neg (Bool.eq_false_iff.mp c58))).trans (if_pos c64)).trans (if_pos c69)).trans (if_pos c75)).trans (if_pos c80)).trans (if_neg c98)).symm
                    · skip
                      refine jv_iload X dX2_isIn_101 0 rfl ?_
                      refine jb_if_ne 122 X dX2_isIn_103 (by decide) (fun c103 => ?_) (fun c103 => ?_)
                      · skip
                        refine jv_iconst (v := nI 0) X dX2_isIn_122 rfl ?_
                        exact j123_2 _ ((((((((((if_neg c35).trans (if_neg c41)).trans (if_pos c53)).trans (if_neg (Bool.eq_false_iff.mp c58))).trans (if_pos c64)).trans (if_pos c69)).trans (if_pos c75)).trans (if_pos c80)).trans (if_pos c98)).trans (if_pos c103)).symm
                      · skip
                        refine jv_iload_n X dX2_isIn_106 5 rfl ?_
                        refine jv_bipush (v := nI 10) X dX2_isIn_107 rfl ?_
                        refine jv_idiv (w := nI (v / 10)) X dX2_isIn_109 (ni_nz (by decide) (by decide)) (pk_div (by omega) (by decide) (by decide)) ?_
                        refine jv_iload X dX2_isIn_110 1 rfl ?_
                        refine jv_bipush (v := nI 10) X dX2_isIn_112 rfl ?_
                        refine jv_idiv (w := nI ((r % 1000) / 10)) X dX2_isIn_114 (ni_nz (by decide) (by decide)) (pk_div (by omega) (by decide) (by decide)) ?_
                        refine jn_icmp_ne 122 X dX2_isIn_115 (by decide) (by omega) (by omega) (fun c115 => ?_) (fun c115 => ?_)
                        · skip
                          refine jv_iconst (v := nI 0) X dX2_isIn_122 rfl ?_
                          exact j123_2 _ (((((((((((if_neg c35).trans (if_neg c41)).trans (if_pos c53)).trans (if_neg (Bool.eq_false_iff.mp c58))).trans (if_pos c64)).trans (if_pos c69)).trans (if_pos c75)).trans (if_pos c80)).trans (if_pos c98)).trans (if_neg (Bool.eq_false_iff.mp c103))).trans (if_neg c115)).symm
                        · skip
                          refine jv_iconst (v := nI 1) X dX2_isIn_118 rfl ?_
                          refine jv_goto 123 X dX2_isIn_119 (by decide) ?_
                          exact j123_2 _ (((((((((((if_neg c35).trans (if_neg c41)).trans (if_pos c53)).trans (if_neg (Bool.eq_false_iff.mp c58))).trans (if_pos c64)).trans (if_pos c69)).trans (if_pos c75)).trans (if_pos c80)).trans (if_pos c98)).trans (if_neg (Bool.eq_false_iff.mp c103))).trans (if_pos c115)).symm
                  · skip
                    refine jv_iload_n X dX2_isIn_83 5 rfl ?_
                    refine jv_bipush (v := nI 100) X dX2_isIn_84 rfl ?_
                    refine jv_idiv (w := nI (v / 100)) X dX2_isIn_86 (ni_nz (by decide) (by decide)) (pk_div (by omega) (by decide) (by decide)) ?_
                    refine jv_iload X dX2_isIn_87 1 rfl ?_
                    refine jv_bipush (v := nI 100) X dX2_isIn_89 rfl ?_
                    refine jv_idiv (w := nI ((r % 1000) / 100)) X dX2_isIn_91 (ni_nz (by decide) (by decide)) (pk_div (by omega) (by decide) (by decide)) ?_
                    refine jn_icmp_eq 118 X dX2_isIn_92 (by decide) (by omega) (by omega) (fun c92 => ?_) (fun c92 => ?_)
                    · skip
                      refine jv_iconst (v := nI 1) X dX2_isIn_118 rfl ?_
                      refine jv_goto 123 X dX2_isIn_119 (by decide) ?_
                      exact j123_2 _ (((((((((if_neg c35).trans (if_neg c41)).trans (if_pos c53)).trans (if_neg (Bool.eq_false_iff.mp c58))).trans (if_pos c64)).trans (if_pos c69)).trans (if_pos c75)).trans (if_neg (Bool.eq_false_iff.mp c80))).trans (if_pos c92)).symm
                    · skip
                      refine jv_iload X dX2_isIn_95 2 rfl ?_
                      refine jv_iconst (v := nI 5) X dX2_isIn_97 rfl ?_
                      refine jn_icmp_ne 122 X dX2_isIn_98 (by decide) (by omega) (by decide) (fun c98 => ?_) (fun c98 => ?_)
                      · skip
                        refine jv_iconst (v := nI 0) X dX2_isIn_122 rfl ?_
                        exact j123_2 _ ((((((((((if_neg c35).trans (if_neg c41)).trans (if_pos c53)).trans (if_neg (Bool.eq_false_iff.mp c58))).trans (if_pos c64)).trans (if_pos c69)).trans (if_pos c75)).trans (if_neg (Bool.eq_false_iff.mp c80))).trans (if_neg c92)).trans (if_neg c98)).symm
                      · skip
                        refine jv_iload X dX2_isIn_101 0 rfl ?_
                        refine jb_if_ne 122 X dX2_isIn_103 (by decide) (fun c103 => ?_) (fun c103 => ?_)
                        · skip
                          refine jv_iconst (v := nI 0) X dX2_isIn_122 rfl ?_
                          exact j123_2 _ (((((((((((if_neg c35).trans (if_neg c41)).trans (if_pos c53)).trans (if_neg (Bool.eq_false_iff.mp c58))).trans (if_pos c64)).trans (if_pos c69)).trans (if_pos c75)).trans (if_neg (Bool.eq_false_iff.mp c80))).trans (if_neg c92)).trans (if_pos c98)).trans (if_pos c103)).symm
                        · skip
                          refine jv_iload_n X dX2_isIn_106 5 rfl ?_
                          refine jv_bipush (v := nI 10) X dX2_isIn_107 rfl ?_
                          refine jv_idiv (w := nI (v / 10)) X dX2_isIn_109 (ni_nz (by decide) (by decide)) (pk_div (by omega) (by decide) (by decide)) ?_
                          refine jv_iload X dX2_isIn_110 1 rfl ?_
                          refine jv_bipush (v := nI 10) X dX2_isIn_112 rfl ?_
                          refine jv_idiv (w := nI ((r % 1000) / 10)) X dX2_isIn_114 (ni_nz (by decide) (by decide)) (pk_div (by omega) (by decide) (by decide)) ?_
                          refine jn_icmp_ne 122 X dX2_isIn_115 (by decide) (by omega) (by omega) (fun c115 => ?_) (fun c115 => ?_)
                          · skip
                            refine jv_iconst (v := nI 0) X dX2_isIn_122 rfl ?_
                            exact j123_2 _ ((((((((((((if_neg c35).trans (if_neg c41)).trans (if_pos c53)).trans (if_neg (Bool.eq_false_iff.mp c58))).trans (if_pos c64)).trans (if_pos c69)).trans (if_pos c75)).trans (if_neg (Bool.eq_false_iff.mp c80))).trans (if_neg c92)).trans (if_pos c98)).trans (if_neg (Bool.eq_false_iff.mp c103))).trans (if_neg c115)).symm
                          · skip
                            refine jv_iconst (v := nI 1) X dX2_isIn_118 rfl ?_
                            refine jv_goto 123 X dX2_isIn_119 (by decide) ?_
                            exact j123_2 _ ((((((((((((if_neg c35).trans (if_neg c41)).trans (if_pos c53)).trans (if_neg (Bool.eq_false_iff.mp c58))).trans (if_pos c64)).trans (if_pos c69)).trans (if_pos c75)).trans (if_neg (Bool.eq_false_iff.mp c80))).trans (if_neg c92)).trans (if_pos c98)).trans (if_neg (Bool.eq_false_iff.mp c103))).trans (if_pos c115)).symm
      · skip
        refine jv_iload_n X dX2_isIn_44 5 rfl ?_
        refine jv_iload X dX2_isIn_45 1 rfl ?_
        refine jn_icmp_eq 118 X dX2_isIn_47 (by decide) (by omega) (by omega) (fun c47 => ?_) (fun c47 => ?_)
        · skip
          refine jv_iconst (v := nI 1) X dX2_isIn_118 rfl ?_
          refine jv_goto 123 X dX2_isIn_119 (by decide) ?_
          exact j123_2 _ (((if_neg c35).trans (if_pos c41)).trans (if_pos c47)).symm
        · skip
          refine jv_iload X dX2_isIn_50 2 rfl ?_
          refine jv_iconst (v := nI 2) X dX2_isIn_52 rfl ?_
          refine jn_icmp_ne 61 X dX2_isIn_53 (by decide) (by omega) (by decide) (fun c53 => ?_) (fun c53 => ?_)
          · skip
            refine jv_iload X dX2_isIn_61 2 rfl ?_
            refine jv_iconst (v := nI 3) X dX2_isIn_63 rfl ?_
            refine jn_icmp_ne 72 X dX2_isIn_64 (by decide) (by omega) (by decide) (fun c64 => ?_) (fun c64 => ?_)
            · skip
              refine jv_iload X dX2_isIn_72 2 rfl ?_
              refine jv_iconst (v := nI 4) X dX2_isIn_74 rfl ?_
              refine jn_icmp_ne 95 X dX2_isIn_75 (by decide) (by omega) (by decide) (fun c75 => ?_) (fun c75 => ?_)
              · skip
                refine jv_iload X dX2_isIn_95 2 rfl ?_
                refine jv_iconst (v := nI 5) X dX2_isIn_97 rfl ?_
                refine jn_icmp_ne 122 X dX2_isIn_98 (by decide) (by omega) (by decide) (fun c98 => ?_) (fun c98 => ?_)
                · skip
                  refine jv_iconst (v := nI 0) X dX2_isIn_122 rfl ?_
                  exact j123_2 _ (((((((if_neg c35).trans (if_pos c41)).trans (if_neg c47)).trans (if_neg c53)).trans (if_neg c64)).trans (if_neg c75)).trans (if_neg c98)).symm
                · skip
                  refine jv_iload X dX2_isIn_101 0 rfl ?_
                  refine jb_if_ne 122 X dX2_isIn_103 (by decide) (fun c103 => ?_) (fun c103 => ?_)
                  · skip
                    refine jv_iconst (v := nI 0) X dX2_isIn_122 rfl ?_
                    exact j123_2 _ ((((((((if_neg c35).trans (if_pos c41)).trans (if_neg c47)).trans (if_neg c53)).trans (if_neg c64)).trans (if_neg c75)).trans (if_pos c98)).trans (if_pos c103)).symm
                  · skip
                    refine jv_iload_n X dX2_isIn_106 5 rfl ?_
                    refine jv_bipush (v := nI 10) X dX2_isIn_107 rfl ?_
                    refine jv_idiv (w := nI (v / 10)) X dX2_isIn_109 (ni_nz (by decide) (by decide)) (pk_div (by omega) (by decide) (by decide)) ?_
                    refine jv_iload X dX2_isIn_110 1 rfl ?_
                    refine jv_bipush (v := nI 10) X dX2_isIn_112 rfl ?_
                    refine jv_idiv (w := nI ((r % 1000) / 10)) X dX2_isIn_114 (ni_nz (by decide) (by decide)) (pk_div (by omega) (by decide) (by decide)) ?_
                    refine jn_icmp_ne 122 X dX2_isIn_115 (by decide) (by omega) (by omega) (fun c115 => ?_) (fun c115 => ?_)
                    · skip
                      refine jv_iconst (v := nI 0) X dX2_isIn_122 rfl ?_
                      exact j123_2 _ (((((((((if_neg c35).trans (if_pos c41)).trans (if_neg c47)).trans (if_neg c53)).trans (if_neg c64)).trans (if_neg c75)).trans (if_pos c98)).trans (if_neg (Bool.eq_false_iff.mp c103))).trans (if_neg c115)).symm
                    · skip
                      refine jv_iconst (v := nI 1) X dX2_isIn_118 rfl ?_
                      refine jv_goto 123 X dX2_isIn_119 (by decide) ?_
                      exact j123_2 _ (((((((((if_neg c35).trans (if_pos c41)).trans (if_neg c47)).trans (if_neg c53)).trans (if_neg c64)).trans (if_neg c75)).trans (if_pos c98)).trans (if_neg (Bool.eq_false_iff.mp c103))).trans (if_pos c115)).symm
              · skip
                refine jv_iload X dX2_isIn_78 0 rfl ?_
                refine jb_if_ne 95 X dX2_isIn_80 (by decide) (fun c80 => ?_) (fun c80 => ?_)
                · skip
                  refine jv_iload X dX2_isIn_95 2 rfl ?_
                  refine jv_iconst (v := nI 5) X dX2_isIn_97 rfl ?_
                  refine jn_icmp_ne 122 X dX2_isIn_98 (by decide) (by omega) (by decide) (fun c98 => ?_) (fun c98 => ?_)
                  · skip
                    refine jv_iconst (v := nI 0) X dX2_isIn_122 rfl ?_
                    exact j123_2 _ ((((((((if_neg c35).trans (if_pos c41)).trans (if_neg c47)).trans (if_neg c53)).trans (if_neg c64)).trans (if_pos c75)).trans (if_pos c80)).trans (if_neg c98)).symm
                  · skip
                    refine jv_iload X dX2_isIn_101 0 rfl ?_
                    refine jb_if_ne 122 X dX2_isIn_103 (by decide) (fun c103 => ?_) (fun c103 => ?_)
                    · skip
                      refine jv_iconst (v := nI 0) X dX2_isIn_122 rfl ?_
                      exact j123_2 _ (((((((((if_neg c35).trans (if_pos c41)).trans (if_neg c47)).trans (if_neg c53)).trans (if_neg c64)).trans (if_pos c75)).trans (if_pos c80)).trans (if_pos c98)).trans (if_pos c103)).symm
                    · skip
                      refine jv_iload_n X dX2_isIn_106 5 rfl ?_
                      refine jv_bipush (v := nI 10) X dX2_isIn_107 rfl ?_
                      refine jv_idiv (w := nI (v / 10)) X dX2_isIn_109 (ni_nz (by decide) (by decide)) (pk_div (by omega) (by decide) (by decide)) ?_
                      refine jv_iload X dX2_isIn_110 1 rfl ?_
                      refine jv_bipush (v := nI 10) X dX2_isIn_112 rfl ?_
                      refine jv_idiv (w := nI ((r % 1000) / 10)) X dX2_isIn_114 (ni_nz (by decide) (by decide)) (pk_div (by omega) (by decide) (by decide)) ?_
                      refine jn_icmp_ne 122 X dX2_isIn_115 (by decide) (by omega) (by omega) (fun c115 => ?_) (fun c115 => ?_)
                      · skip
                        refine jv_iconst (v := nI 0) X dX2_isIn_122 rfl ?_
                        exact j123_2 _ ((((((((((if_neg c35).trans (if_pos c41)).trans (if_neg c47)).trans (if_neg c53)).trans (if_neg c64)).trans (if_pos c75)).trans (if_pos c80)).trans (if_pos c98)).trans (if_neg (Bool.eq_false_iff.mp c103))).trans (if_neg c115)).symm
                      · skip
                        refine jv_iconst (v := nI 1) X dX2_isIn_118 rfl ?_
                        refine jv_goto 123 X dX2_isIn_119 (by decide) ?_
                        exact j123_2 _ ((((((((((if_neg c35).trans (if_pos c41)).trans (if_neg c47)).trans (if_neg c53)).trans (if_neg c64)).trans (if_pos c75)).trans (if_pos c80)).trans (if_pos c98)).trans (if_neg (Bool.eq_false_iff.mp c103))).trans (if_pos c115)).symm
                · skip
                  refine jv_iload_n X dX2_isIn_83 5 rfl ?_
                  refine jv_bipush (v := nI 100) X dX2_isIn_84 rfl ?_
                  refine jv_idiv (w := nI (v / 100)) X dX2_isIn_86 (ni_nz (by decide) (by decide)) (pk_div (by omega) (by decide) (by decide)) ?_
                  refine jv_iload X dX2_isIn_87 1 rfl ?_
                  refine jv_bipush (v := nI 100) X dX2_isIn_89 rfl ?_
                  refine jv_idiv (w := nI ((r % 1000) / 100)) X dX2_isIn_91 (ni_nz (by decide) (by decide)) (pk_div (by omega) (by decide) (by decide)) ?_
                  refine jn_icmp_eq 118 X dX2_isIn_92 (by decide) (by omega) (by omega) (fun c92 => ?_) (fun c92 => ?_)
                  · skip
                    refine jv_iconst (v := nI 1) X dX2_isIn_118 rfl ?_
                    refine jv_goto 123 X dX2_isIn_119 (by decide) ?_
                    exact j123_2 _ ((((((((if_neg c35).trans (if_pos c41)).trans (if_neg c47)).trans (if_neg c53)).trans (if_neg c64)).trans (if_pos c75)).trans (if_neg (Bool.eq_false_iff.mp c80))).trans (if_pos c92)).symm
                  · skip
                    refine jv_iload X dX2_isIn_95 2 rfl ?_
                    refine jv_iconst (v := nI 5) X dX2_isIn_97 rfl ?_
                    refine jn_icmp_ne 122 X dX2_isIn_98 (by decide) (by omega) (by decide) (fun c98 => ?_) (fun c98 => ?_)
                    · skip
                      refine jv_iconst (v := nI 0) X dX2_isIn_122 rfl ?_
                      exact j123_2 _ (((((((((if_neg c35).trans (if_pos c41)).trans (if_neg c47)).trans (if_neg c53)).trans (if_neg c64)).trans (if_pos c75)).trans (if_neg (Bool.eq_false_iff.mp c80))).trans (if_neg c92)).trans (if_neg c98)).symm
                    · skip
                      refine jv_iload X dX2_isIn_101 0 rfl ?_
                      refine jb_if_ne 122 X dX2_isIn_103 (by decide) (fun c103 => ?_) (fun c103 => ?_)
                      · skip
                        refine jv_iconst (v := nI 0) X dX2_isIn_122 rfl ?_
                        exact j123_2 _ ((((((((((if_neg c35).trans (if_pos c41)).trans (if_neg c47)).trans (if_neg c53)).trans (if_neg c64)).trans (if_pos c75)).trans (if_neg (Bool.eq_false_iff.mp c80))).trans (if_neg c92)).trans (if_pos c98)).trans (if_pos c103)).symm
                      · skip
                        refine jv_iload_n X dX2_isIn_106 5 rfl ?_
                        refine jv_bipush (v := nI 10) X dX2_isIn_107 rfl ?_
                        refine jv_idiv (w := nI (v / 10)) X dX2_isIn_109 (ni_nz (by decide) (by decide)) (pk_div (by omega) (by decide) (by decide)) ?_
                        refine jv_iload X dX2_isIn_110 1 rfl ?_
                        refine jv_bipush (v := nI 10) X dX2_isIn_112 rfl ?_
                        refine jv_idiv (w := nI ((r % 1000) / 10)) X dX2_isIn_114 (ni_nz (by decide) (by decide)) (pk_div (by omega) (by decide) (by decide)) ?_
                        refine jn_icmp_ne 122 X dX2_isIn_115 (by decide) (by omega) (by omega) (fun c115 => ?_) (fun c115 => ?_)
                        · skip
                          refine jv_iconst (v := nI 0) X dX2_isIn_122 rfl ?_
                          exact j123_2 _ (((((((((((if_neg c35).trans (if_pos c41)).trans (if_neg c47)).trans (if_neg c53)).trans (if_neg c64)).trans (if_pos c75)).trans (if_neg (Bool.eq_false_iff.mp c80))).trans (if_neg c92)).trans (if_pos c98)).trans (if_neg (Bool.eq_false_iff.mp c103))).trans (if_neg c115)).symm
                        · skip
                          refine jv_iconst (v := nI 1) X dX2_isIn_118 rfl ?_
                          refine jv_goto 123 X dX2_isIn_119 (by decide) ?_
                          exact j123_2 _ (((((((((((if_neg c35).trans (if_pos c41)).trans (if_neg c47)).trans (if_neg c53)).trans (if_neg c64)).trans (if_pos c75)).trans (if_neg (Bool.eq_false_iff.mp c80))).trans (if_neg c92)).trans (if_pos c98)).trans (if_neg (Bool.eq_false_iff.mp c103))).trans (if_pos c115)).symm
            · skip
              refine jv_iload X dX2_isIn_67 0 rfl ?_
              refine jb_if_eq 118 X dX2_isIn_69 (by decide) (fun c69 => ?_) (fun c69 => ?_)
              · skip
                refine jv_iconst (v := nI 1) X dX2_isIn_118 rfl ?_
                refine jv_goto 123 X dX2_isIn_119 (by decide) ?_
                exact j123_2 _ ((((((if_neg c35).trans (if_pos c41)).trans (if_neg c47)).trans (if_neg c53)).trans (if_pos c64)).trans (if_neg (Bool.eq_false_iff.mp c69))).symm
              · skip
                refine jv_iload X dX2_isIn_72 2 rfl ?_
                refine jv_iconst (v := nI 4) X dX2_isIn_74 rfl ?_
                refine jn_icmp_ne 95 X dX2_isIn_75 (by decide) (by omega) (by decide) (fun c75 => ?_) (fun c75 => ?_)
                · skip
                  refine jv_iload X dX2_isIn_95 2 rfl ?_
                  refine jv_iconst (v := nI 5) X dX2_isIn_97 rfl ?_
                  refine jn_icmp_ne 122 X dX2_isIn_98 (by decide) (by omega) (by decide) (fun c98 => ?_) (fun c98 => ?_)
                  · skip
                    refine jv_iconst (v := nI 0) X dX2_isIn_122 rfl ?_
                    exact j123_2 _ ((((((((if_neg c35).trans (if_pos c41)).trans (if_neg c47)).trans (if_neg c53)).trans (if_pos c64)).trans (if_pos c69)).trans (if_neg c75)).trans (if_neg c98)).symm
                  · skip
                    refine jv_iload X dX2_isIn_101 0 rfl ?_
                    refine jb_if_ne 122 X dX2_isIn_103 (by decide) (fun c103 => ?_) (fun c103 => ?_)
                    · skip
                      refine jv_iconst (v := nI 0) X dX2_isIn_122 rfl ?_
                      exact j123_2 _ (((((((((if_neg c35).trans (if_pos c41)).trans (if_neg c47)).trans (if_neg c53)).trans (if_pos c64)).trans (if_pos c69)).trans (if_neg c75)).trans (if_pos c98)).trans (if_pos c103)).symm
                    · skip
                      refine jv_iload_n X dX2_isIn_106 5 rfl ?_
                      refine jv_bipush (v := nI 10) X dX2_isIn_107 rfl ?_
                      refine jv_idiv (w := nI (v / 10)) X dX2_isIn_109 (ni_nz (by decide) (by decide)) (pk_div (by omega) (by decide) (by decide)) ?_
                      refine jv_iload X dX2_isIn_110 1 rfl ?_
                      refine jv_bipush (v := nI 10) X dX2_isIn_112 rfl ?_
                      refine jv_idiv (w := nI ((r % 1000) / 10)) X dX2_isIn_114 (ni_nz (by decide) (by decide)) (pk_div (by omega) (by decide) (by decide)) ?_
                      refine jn_icmp_ne 122 X dX2_isIn_115 (by decide) (by omega) (by omega) (fun c115 => ?_) (fun c115 => ?_)
                      · skip
                        refine jv_iconst (v := nI 0) X dX2_isIn_122 rfl ?_
                        exact j123_2 _ ((((((((((if_neg c35).trans (if_pos c41)).trans (if_neg c47)).trans (if_neg c53)).trans (if_pos c64)).trans (if_pos c69)).trans (if_neg c75)).trans (if_pos c98)).trans (if_neg (Bool.eq_false_iff.mp c103))).trans (if_neg c115)).symm
                      · skip
                        refine jv_iconst (v := nI 1) X dX2_isIn_118 rfl ?_
                        refine jv_goto 123 X dX2_isIn_119 (by decide) ?_
                        exact j123_2 _ ((((((((((if_neg c35).trans (if_pos c41)).trans (if_neg c47)).trans (if_neg c53)).trans (if_pos c64)).trans (if_pos c69)).trans (if_neg c75)).trans (if_pos c98)).trans (if_neg (Bool.eq_false_iff.mp c103))).trans (if_pos c115)).symm
                · skip
                  refine jv_iload X dX2_isIn_78 0 rfl ?_
                  refine jb_if_ne 95 X dX2_isIn_80 (by decide) (fun c80 => ?_) (fun c80 => ?_)
                  · skip
                    refine jv_iload X dX2_isIn_95 2 rfl ?_
                    refine jv_iconst (v := nI 5) X dX2_isIn_97 rfl ?_
                    refine jn_icmp_ne 122 X dX2_isIn_98 (by decide) (by omega) (by decide) (fun c98 => ?_) (fun c98 => ?_)
                    · skip
                      refine jv_iconst (v := nI 0) X dX2_isIn_122 rfl ?_
                      exact j123_2 _ (((((((((if_neg c35).trans (if_pos c41)).trans (if_neg c47)).trans (if_neg c53)).trans (if_pos c64)).trans (if_pos c69)).trans (if_pos c75)).trans (if_pos c80)).trans (if_neg c98)).symm
                    · skip
                      refine jv_iload X dX2_isIn_101 0 rfl ?_
                      refine jb_if_ne 122 X dX2_isIn_103 (by decide) (fun c103 => ?_) (fun c103 => ?_)
                      · skip
                        refine jv_iconst (v := nI 0) X dX2_isIn_122 rfl ?_
                        exact j123_2 _ ((((((((((if_neg c35).trans (if_pos c41)).trans (if_neg c47)).trans (if_neg c53)).trans (if_pos c64)).trans (if_pos c69)).trans (if_pos c75)).trans (if_pos c80)).trans (if_pos c98)).trans (if_pos c103)).symm
                      · skip
                        refine jv_iload_n X dX2_isIn_106 5 rfl ?_
                        refine jv_bipush (v := nI 10) X dX2_isIn_107 rfl ?_
                        refine jv_idiv (w := nI (v / 10)) X dX2_isIn_109 (ni_nz (by decide) (by decide)) (pk_div (by omega) (by decide) (by decide)) ?_
                        refine jv_iload X dX2_isIn_110 1 rfl ?_
                        refine jv_bipush (v := nI 10) X dX2_isIn_112 rfl ?_
                        refine jv_idiv (w := nI ((r % 1000) / 10)) X dX2_isIn_114 (ni_nz (by decide) (by decide)) (pk_div (by omega) (by decide) (by decide)) ?_
                        refine jn_icmp_ne 122 X dX2_isIn_115 (by decide) (by omega) (by omega) (fun c115 => ?_) (fun c115 => ?_)
                        · skip
                          refine jv_iconst (v := nI 0) X dX2_isIn_122 rfl ?_
                          exact j123_2 _ (((((((((((if_neg c35).trans (if_pos c41)).trans (if_neg c47)).trans (if_neg c53)).trans (if_pos c64)).trans (if_pos c69)).trans (if_pos c75)).trans (if_pos c80)).trans (if_pos c98)).trans (if_neg (Bool.eq_false_iff.mp c103))).trans (if_neg c115)).symm
                        · skip
                          refine jv_iconst (v := nI 1) X dX2_isIn_118 rfl ?_
                          refine jv_goto 123 X dX2_isIn_119 (by decide) ?_
                          exact j123_2 _ (((((((((((if_neg c35).trans (if_pos c41)).trans (if_neg c47)).trans (if_neg c53)).trans (if_pos c64)).trans (if_pos c69)).trans (if_pos c75)).trans (if_pos c80)).trans (if_pos c98)).trans (if_neg (Bool.eq_false_iff.mp c103))).trans (if_pos c115)).symm
                  · skip
                    refine jv_iload_n X dX2_isIn_83 5 rfl ?_
                    refine jv_bipush (v := nI 100) X dX2_isIn_84 rfl ?_
                    refine jv_idiv (w := nI (v / 100)) X dX2_isIn_86 (ni_nz (by decide) (by decide)) (pk_div (by omega) (by decide) (by decide)) ?_
                    refine jv_iload X dX2_isIn_87 1 rfl ?_
                    refine jv_bipush (v := nI 100) X dX2_isIn_89 rfl ?_
                    refine jv_idiv (w := nI ((r % 1000) / 100)) X dX2_isIn_91 (ni_nz (by decide) (by decide)) (pk_div (by omega) (by decide) (by decide)) ?_
                    refine jn_icmp_eq 118 X dX2_isIn_92 (by decide) (by omega) (by omega) (fun c92 => ?_) (fun c92 => ?_)
                    · skip
                      refine jv_iconst (v := nI 1) X dX2_isIn_118 rfl ?_
                      refine jv_goto 123 X dX2_isIn_119 (by decide) ?_
                      exact j123_2 _ (((((((((if_neg c35).trans (if_pos c41)).trans (if_neg c47)).trans (if_neg c53)).trans (if_pos c64)).trans (if_pos c69)).trans (if_pos c75)).trans (if_neg (Bool.eq_false_iff.mp c80))).trans (if_pos c92)).symm
                    · skip
                      refine jv_iload X dX2_isIn_95 2 rfl ?_
                      refine jv_iconst (v := nI 5) X dX2_isIn_97 rfl ?_
                      refine jn_icmp_ne 122 X dX2_isIn_98 (by decide) (by omega) (by decide) (fun c98 => ?_) (fun c98 => ?_)
                      · skip
                        refine jv_iconst (v := nI 0) X dX2_isIn_122 rfl ?_
                        exact j123_2 _ ((((((((((if_neg c35).trans (if_pos c41)).trans (if_neg c47)).trans (if_neg c53)).trans (if_pos c64)).trans (if_pos c69)).trans (if_pos c75)).trans (if_neg (Bool.eq_false_iff.mp c80))).trans (if_neg c92)).trans (if_neg c98)).symm
                      · skip
                        refine jv_iload X dX2_isIn_101 0 rfl ?_
                        refine jb_if_ne 122 X dX2_isIn_103 (by decide) (fun c103 => ?_) (fun c103 => ?_)
                        · skip
                          refine jv_iconst (v := nI 0) X dX2_isIn_122 rfl ?_
                          exact j123_2 _ (((((((((((if_neg c35).trans (if_pos c41)).trans (if_neg c47)).trans (if_neg c53)).trans (if_pos c64)).trans (if_pos c69)).trans (if_pos c75)).trans (if_neg (Bool.eq_false_iff.mp c80))).trans (if_neg c92)).trans (if_pos c98)).trans (if_pos c103)).symm
                        · skip
                          refine jv_iload_n X dX2_isIn_106 5 rfl ?_
                          refine jv_bipush (v := nI 10) X dX2_isIn_107 rfl ?_
                          refine jv_idiv (w := nI (v / 10)) X dX2_isIn_109 (ni_nz (by decide) (by decide)) (pk_div (by omega) (by decide) (by decide)) ?_
                          refine jv_iload X dX2_isIn_110 1 rfl ?_
                          refine jv_bipush (v := nI 10) X dX2_isIn_112 rfl ?_
                          refine jv_idiv (w := nI ((r % 1000) / 10)) X dX2_isIn_114 (ni_nz (by decide) (by decide)) (pk_div (by omega) (by decide) (by decide)) ?_
                          refine jn_icmp_ne 122 X dX2_isIn_115 (by decide) (by omega) (by omega) (fun c115 => ?_) (fun c115 => ?_)
                          · skip
                            refine jv_iconst (v := nI 0) X dX2_isIn_122 rfl ?_
                            exact j123_2 _ ((((((((((((if_neg c35).trans (if_pos c41)).trans (if_neg c47)).trans (if_neg c53)).trans (if_pos c64)).trans (if_pos c69)).trans (if_pos c75)).trans (if_neg (Bool.eq_false_iff.mp c80))).trans (if_neg c92)).trans (if_pos c98)).trans (if_neg (Bool.eq_false_iff.mp c103))).trans (if_neg c115)).symm
                          · skip
                            refine jv_iconst (v := nI 1) X dX2_isIn_118 rfl ?_
                            refine jv_goto 123 X dX2_isIn_119 (by decide) ?_
                            exact j123_2 _ ((((((((((((if_neg c35).trans (if_pos c41)).trans (if_neg c47)).trans (if_neg c53)).trans (if_pos c64)).trans (if_pos c69)).trans (if_pos c75)).trans (if_neg (Bool.eq_false_iff.mp c80))).trans (if_neg c92)).trans (if_pos c98)).trans (if_neg (Bool.eq_false_iff.mp c103))).trans (if_pos c115)).symm
          · skip
            refine jv_iload X dX2_isIn_56 0 rfl ?_
            refine jb_if_ne 118 X dX2_isIn_58 (by decide) (fun c58 => ?_) (fun c58 => ?_)
            · skip
              refine jv_iconst (v := nI 1) X dX2_isIn_118 rfl ?_
              refine jv_goto 123 X dX2_isIn_119 (by decide) ?_
              exact j123_2 _ (((((if_neg c35).trans (if_pos c41)).trans (if_neg c47)).trans (if_pos c53)).trans (if_pos c58)).symm
            · skip
              refine jv_iload X dX2_isIn_61 2 rfl ?_
              refine jv_iconst (v := nI 3) X dX2_isIn_63 rfl ?_
              refine jn_icmp_ne 72 X dX2_isIn_64 (by decide) (by omega) (by decide) (fun c64 => ?_) (fun c64 => ?_)
              · skip
                refine jv_iload X dX2_isIn_72 2 rfl ?_
                refine jv_iconst (v := nI 4) X dX2_isIn_74 rfl ?_
                refine jn_icmp_ne 95 X dX2_isIn_75 (by decide) (by omega) (by decide) (fun c75 => ?_) (fun c75 => ?_)
                · skip
                  refine jv_iload X dX2_isIn_95 2 rfl ?_
                  refine jv_iconst (v := nI 5) X dX2_isIn_97 rfl ?_
                  refine jn_icmp_ne 122 X dX2_isIn_98 (by decide) (by omega) (by decide) (fun c98 => ?_) (fun c98 => ?_)
                  · skip
                    refine jv_iconst (v := nI 0) X dX2_isIn_122 rfl ?_
                    exact j123_2 _ ((((((((if_neg c35).trans (if_pos c41)).trans (if_neg c47)).trans (if_pos c53)).trans (if_neg (Bool.eq_false_iff.mp c58))).trans (if_neg c64)).trans (if_neg c75)).trans (if_neg c98)).symm
                  · skip
                    refine jv_iload X dX2_isIn_101 0 rfl ?_
                    refine jb_if_ne 122 X dX2_isIn_103 (by decide) (fun c103 => ?_) (fun c103 => ?_)
                    · skip
                      refine jv_iconst (v := nI 0) X dX2_isIn_122 rfl ?_
                      exact j123_2 _ (((((((((if_neg c35).trans (if_pos c41)).trans (if_neg c47)).trans (if_pos c53)).trans (if_neg (Bool.eq_false_iff.mp c58))).trans (if_neg c64)).trans (if_neg c75)).trans (if_pos c98)).trans (if_pos c103)).symm
                    · skip
                      refine jv_iload_n X dX2_isIn_106 5 rfl ?_
                      refine jv_bipush (v := nI 10) X dX2_isIn_107 rfl ?_
                      refine jv_idiv (w := nI (v / 10)) X dX2_isIn_109 (ni_nz (by decide) (by decide)) (pk_div (by omega) (by decide) (by decide)) ?_
                      refine jv_iload X dX2_isIn_110 1 rfl ?_
                      refine jv_bipush (v := nI 10) X dX2_isIn_112 rfl ?_
                      refine jv_idiv (w := nI ((r % 1000) / 10)) X dX2_isIn_114 (ni_nz (by decide) (by decide)) (pk_div (by omega) (by decide) (by decide)) ?_
                      refine jn_icmp_ne 122 X dX2_isIn_115 (by decide) (by omega) (by omega) (fun c115 => ?_) (fun c115 => ?_)
                      · skip
                        refine jv_iconst (v := nI 0) X dX2_isIn_122 rfl ?_
                        exact j123_2 _ ((((((((((if_neg c35).trans (if_pos c41)).trans (if_neg c47)).trans (if_pos c53)).trans (if_neg (Bool.eq_false_iff.mp c58))).trans (if_neg c64)).trans (if_neg c75)).trans (if_pos c98)).trans (if_neg (Bool.eq_false_iff.mp c103))).trans (if_neg c115)).symm
                      · skip
                        refine jv_iconst (v := nI 1) X dX2_isIn_118 rfl ?_
                        refine jv_goto 123 X dX2_isIn_119 (by decide) ?_
                        exact j123_2 _ ((((((((((if_neg c35).trans (if_pos c41)).trans (if_neg c47)).trans (if_pos c53)).trans (if_neg (Bool.eq_false_iff.mp c58))).trans (if_neg c64)).trans (if_neg c75)).trans (if_pos c98)).trans (if_neg (Bool.eq_false_iff.mp c103))).trans (if_pos c115)).symm
                · skip
                  refine jv_iload X dX2_isIn_78 0 rfl ?_
                  refine jb_if_ne 95 X dX2_isIn_80 (by decide) (fun c80 => ?_) (fun c80 => ?_)
                  · skip
                    refine jv_iload X dX2_isIn_95 2 rfl ?_
                    refine jv_iconst (v := nI 5) X dX2_isIn_97 rfl ?_
                    refine jn_icmp_ne 122 X dX2_isIn_98 (by decide) (by omega) (by decide) (fun c98 => ?_) (fun c98 => ?_)
                    · skip
                      refine jv_iconst (v := nI 0) X dX2_isIn_122 rfl ?_
                      exact j123_2 _ (((((((((if_neg c35).trans (if_pos c41)).trans (if_neg c47)).trans (if_pos c53)).trans (if_neg (Bool.eq_false_iff.mp c58))).trans (if_neg c64)).trans (if_pos c75)).trans (if_pos c80)).trans (if_neg c98)).symm
                    · skip
                      refine jv_iload X dX2_isIn_101 0 rfl ?_
                      refine jb_if_ne 122 X dX2_isIn_103 (by decide) (fun c103 => ?_) (fun c103 => ?_)
                      · skip
                        refine jv_iconst (v := nI 0) X dX2_isIn_122 rfl ?_
                        exact j123_2 _ ((((((((((if_neg c35).trans (if_pos c41)).trans (if_neg c47)).trans (if_pos c53)).trans (if_neg (Bool.eq_false_iff.mp c58))).trans (if_neg c64)).trans (if_pos c75)).trans (if_pos c80)).trans (if_pos c98)).trans (if_pos c103)).symm
                      · skip
                        refine jv_iload_n X dX2_isIn_106 5 rfl ?_
                        refine jv_bipush (v := nI 10) X dX2_isIn_107 rfl ?_
                        refine jv_idiv (w := nI (v / 10)) X dX2_isIn_109 (ni_nz (by decide) (by decide)) (pk_div (by omega) (by decide) (by decide)) ?_
                        refine jv_iload X dX2_isIn_110 1 rfl ?_
                        refine jv_bipush (v := nI 10) X dX2_isIn_112 rfl ?_
                        refine jv_idiv (w := nI ((r % 1000) / 10)) X dX2_isIn_114 (ni_nz (by decide) (by decide)) (pk_div (by omega) (by decide) (by decide)) ?_
                        refine jn_icmp_ne 122 X dX2_isIn_115 (by decide) (by omega) (by omega) (fun c115 => ?_) (fun c115 => ?_)
                        · skip
                          refine jv_iconst (v := nI 0) X dX2_isIn_122 rfl ?_
                          exact j123_2 _ (((((((((((if_neg c35).trans (if_pos c41)).trans (if_neg c47)).trans (if_pos c53)).trans (if_neg (Bool.eq_false_iff.mp c58))).trans (if_neg c64)).trans (if_pos c75)).trans (if_pos c80)).trans (if_pos c98)).trans (if_neg (Bool.eq_false_iff.mp c103))).trans (if_neg c115)).symm
                        · skip
                          refine jv_iconst (v := nI 1) X dX2_isIn_118 rfl ?_
                          refine jv_goto 123 X dX2_isIn_119 (by decide) ?_
                          exact j123_2 _ (((((((((((if_neg c35).trans (if_pos c41)).trans (if_neg c47)).trans (if_pos c53)).trans (if_neg (Bool.eq_false_iff.mp c58))).trans (if_neg c64)).trans (if_pos c75)).trans (if_pos c80)).trans (if_pos c98)).trans (if_neg (Bool.eq_false_iff.mp c103))).trans (if_pos c115)).symm
                  · skip
                    refine jv_iload_n X dX2_isIn_83 5 rfl ?_
                    refine jv_bipush (v := nI 100) X dX2_isIn_84 rfl ?_
                    refine jv_idiv (w := nI (v / 100)) X dX2_isIn_86 (ni_nz (by decide) (by decide)) (pk_div (by omega) (by decide) (by decide)) ?_
                    refine jv_iload X dX2_isIn_87 1 rfl ?_
                    refine jv_bipush (v := nI 100) X dX2_isIn_89 rfl ?_
                    refine jv_idiv (w := nI ((r % 1000) / 100)) X dX2_isIn_91 (ni_nz (by decide) (by decide)) (pk_div (by omega) (by decide) (by decide)) ?_
                    refine jn_icmp_eq 118 X dX2_isIn_92 (by decide) (by omega) (by omega) (fun c92 => ?_) (fun c92 => ?_)
                    · skip
                      refine jv_iconst (v := nI 1) X dX2_isIn_118 rfl ?_
                      refine jv_goto 123 X dX2_isIn_119 (by decide) ?_
                      exact j123_2 _ (((((((((if_neg c35).trans (if_pos c41)).trans (if_neg c47)).trans (if_pos c53)).trans (if_neg (Bool.eq_false_iff.mp c58))).trans (if_neg c64)).trans (if_pos c75)).trans (if_neg (Bool.eq_false_iff.mp c80))).trans (if_pos c92)).symm
                    · skip
                      refine jv_iload X dX2_isIn_95 2 rfl ?_
                      refine jv_iconst (v := nI 5) X dX2_isIn_97 rfl ?_
                      refine jn_icmp_ne 122 X dX2_isIn_98 (by decide) (by omega) (by decide) (fun c98 => ?_) (fun c98 => ?_)
                      · skip
                        refine jv_iconst (v := nI 0) X dX2_isIn_122 rfl ?_
                        exact j123_2 _ ((((((((((if_neg c35).trans (if_pos c41)).trans (if_neg c47)).trans (if_pos c53)).trans (if_neg (Bool.eq_false_iff.mp c58))).trans (if_neg c64)).trans (if_pos c75)).trans (if_neg (Bool.eq_false_iff.mp c80))).trans (if_neg c92)).trans (if_neg c98)).symm
                      · skip
                        refine jv_iload X dX2_isIn_101 0 rfl ?_
                        refine jb_if_ne 122 X dX2_isIn_103 (by decide) (fun c103 => ?_) (fun c103 => ?_)
                        · skip
                          refine jv_iconst (v := nI 0) X dX2_isIn_122 rfl ?_
                          exact j123_2 _ (((((((((((if_neg c35).trans (if_pos c41)).trans (if_neg c47)).trans (if_pos c53)).trans (if_neg (Bool.eq_false_iff.mp c58))).trans (if_neg c64)).trans (if_pos c75)).trans (if_neg (Bool.eq_false_iff.mp c80))).trans (if_neg c92)).trans (if_pos c98)).trans (if_pos c103)).symm
                        · skip
                          refine jv_iload_n X dX2_isIn_106 5 rfl ?_
                          refine jv_bipush (v := nI 10) X dX2_isIn_107 rfl ?_
                          refine jv_idiv (w := nI (v / 10)) X dX2_isIn_109 (ni_nz (by decide) (by decide)) (pk_div (by omega) (by decide) (by decide)) ?_
                          refine jv_iload X dX2_isIn_110 1 rfl ?_
                          refine jv_bipush (v := nI 10) X dX2_isIn_112 rfl ?_
                          refine jv_idiv (w := nI ((r % 1000) / 10)) X dX2_isIn_114 (ni_nz (by decide) (by decide)) (pk_div (by omega) (by decide) (by decide)) ?_
                          refine jn_icmp_ne 122 X dX2_isIn_115 (by decide) (by omega) (by omega) (fun c115 => ?_) (fun c115 => ?_)
                          · skip
                            refine jv_iconst (v := nI 0) X dX2_isIn_122 rfl ?_
                            exact j123_2 _ ((((((((((((if_neg c35).trans (if_pos c41)).trans (if_neg c47)).trans (if_pos c53)).trans (if_neg (Bool.eq_false_iff.mp c58))).trans (if_neg c64)).trans (if_pos c75)).trans (if_neg (Bool.eq_false_iff.mp c80))).trans (if_neg c92)).trans (if_pos c98)).trans (if_neg (Bool.eq_false_iff.mp c103))).trans (if_neg c115)).symm
                          · skip
                            refine jv_iconst (v := nI 1) X dX2_isIn_118 rfl ?_
                            refine jv_goto 123 X dX2_isIn_119 (by decide) ?_
                            exact j123_2 _ ((((((((((((if_neg c35).trans (if_pos c41)).trans (if_neg c47)).trans (if_pos c53)).trans (if_neg (Bool.eq_false_iff.mp c58))).trans (if_neg c64)).trans (if_pos c75)).trans (if_neg (Bool.eq_false_iff.mp c80))).trans (if_neg c92)).trans (if_pos c98)).trans (if_neg (Bool.eq_false_iff.mp c103))).trans (if_pos c115)).symm
              · skip
                refine jv_iload X dX2_isIn_67 0 rfl ?_
                refine jb_if_eq 118 X dX2_isIn_69 (by decide) (fun c69 => ?_) (fun c69 => ?_)
                · skip
                  refine jv_iconst (v := nI 1) X dX2_isIn_118 rfl ?_
                  refine jv_goto 123 X dX2_isIn_119 (by decide) ?_
                  exact j123_2 _ (((((((if_neg c35).trans (if_pos c41)).trans (if_neg c47)).trans (if_pos c53)).trans (if_neg (Bool.eq_false_iff.mp c58))).trans (if_pos c64)).trans (if_neg (Bool.eq_false_iff.mp c69))).symm
                · skip
                  refine jv_iload X dX2_isIn_72 2 rfl ?_
                  refine jv_iconst (v := nI 4) X dX2_isIn_74 rfl ?_
                  refine jn_icmp_ne 95 X dX2_isIn_75 (by decide) (by omega) (by decide) (fun c75 => ?_) (fun c75 => ?_)
                  · skip
                    refine jv_iload X dX2_isIn_95 2 rfl ?_
                    refine jv_iconst (v := nI 5) X dX2_isIn_97 rfl ?_
                    refine jn_icmp_ne 122 X dX2_isIn_98 (by decide) (by omega) (by decide) (fun c98 => ?_) (fun c98 => ?_)
                    · skip
                      refine jv_iconst (v := nI 0) X dX2_isIn_122 rfl ?_
                      exact j123_2 _ (((((((((if_neg c35).trans (if_pos c41)).trans (if_neg c47)).trans (if_pos c53)).trans (if_neg (Bool.eq_false_iff.mp c58))).trans (if_pos c64)).trans (if_pos c69)).trans (if_neg c75)).trans (if_neg c98)).symm
                    · skip
                      refine jv_iload X dX2_isIn_101 0 rfl ?_
                      refine jb_if_ne 122 X dX2_isIn_103 (by decide) (fun c103 => ?_) (fun c103 => ?_)
                      · skip
                        refine jv_iconst (v := nI 0) X dX2_isIn_122 rfl ?_
                        exact j123_2 _ ((((((((((if_neg c35).trans (if_pos c41)).trans (if_neg c47)).trans (if_pos c53)).trans (if_neg (Bool.eq_false_iff.mp c58))).trans (if_pos c64)).trans (if_pos c69)).trans (if_neg c75)).trans (if_pos c98)).trans (if_pos c103)).symm
                      · skip
                        refine jv_iload_n X dX2_isIn_106 5 rfl ?_
                        refine jv_bipush (v := nI 10) X dX2_isIn_107 rfl ?_
                        refine jv_idiv (w := nI (v / 10)) X dX2_isIn_109 (ni_nz (by decide) (by decide)) (pk_div (by omega) (by decide) (by decide)) ?_
                        refine jv_iload X dX2_isIn_110 1 rfl ?_
                        refine jv_bipush (v := nI 10) X dX2_isIn_112 rfl ?_
                        refine jv_idiv (w := nI ((r % 1000) / 10)) X dX2_isIn_114 (ni_nz (by decide) (by decide)) (pk_div (by omega) (by decide) (by decide)) ?_
                        refine jn_icmp_ne 122 X dX2_isIn_115 (by decide) (by omega) (by omega) (fun c115 => ?_) (fun c115 => ?_)
                        · skip
                          refine jv_iconst (v := nI 0) X dX2_isIn_122 rfl ?_
                          exact j123_2 _ (((((((((((if_neg c35).trans (if_pos c41)).trans (if_neg c47)).trans (if_pos c53)).trans (if_neg (Bool.eq_false_iff.mp c58))).trans (if_pos c64)).trans (if_pos c69)).trans (if_neg c75)).trans (if_pos c98)).trans (if_neg (Bool.eq_false_iff.mp c103))).trans (if_neg c115)).symm
                        · skip
                          refine jv_iconst (v := nI 1) X dX2_isIn_118 rfl ?_
                          refine jv_goto 123 X dX2_isIn_119 (by decide) ?_
                          exact j123_2 _ (((((((((((if_neg c35).trans (if_pos c41)).trans (if_neg c47)).trans (if_pos c53)).trans (if_neg (Bool.eq_false_iff.mp c58))).trans (if_pos c64)).trans (if_pos c69)).trans (if_neg c75)).trans (if_pos c98)).trans (if_neg (Bool.eq_false_iff.mp c103))).trans (if_pos c115)).symm
                  · skip
                    refine jv_iload X dX2_isIn_78 0 rfl ?_
                    refine jb_if_ne 95 X dX2_isIn_80 (by decide) (fun c80 => ?_) (fun c80 => ?_)
                    · skip
                      refine jv_iload X dX2_isIn_95 2 rfl ?_
                      refine jv_iconst (v := nI 5) X dX2_isIn_97 rfl ?_
                      refine jn_icmp_ne 122 X dX2_isIn_98 (by decide) (by omega) (by decide) (fun c98 => ?_) (fun c98 => ?_)
                      · skip
                        refine jv_iconst (v := nI 0) X dX2_isIn_122 rfl ?_
                        exact j123_2 _ ((((((((((if_neg c35).trans (if_pos c41)).trans (if_neg c47)).trans (if_pos c53)).trans (if_neg (Bool.eq_false_iff.mp c58))).trans (if_pos c64)).trans (if_pos c69)).trans (if_pos c75)).trans (if_pos c80)).trans (if_neg c98)).symm
                      · skip
                        refine jv_iload X dX2_isIn_101 0 rfl ?_
                        refine jb_if_ne 122 X dX2_isIn_103 (by decide) (fun c103 => ?_) (fun c103 => ?_)
                        · skip
                          refine jv_iconst (v := nI 0) X dX2_isIn_122 rfl ?_
                          exact j123_2 _ (((((((((((if_neg c35).trans (if_pos c41)).trans (if_neg c47)).trans (if_pos c53)).trans (if_neg (Bool.eq_false_iff.mp c58))).trans (if_pos c64)).trans (if_pos c69)).trans (if_pos c75)).trans (if_pos c80)).trans (if_pos c98)).trans (if_pos c103)).symm
                        · skip
                          refine jv_iload_n X dX2_isIn_106 5 rfl ?_
                          refine jv_bipush (v := nI 10) X dX2_isIn_107 rfl ?_
                          refine jv_idiv (w := nI (v / 10)) X dX2_isIn_109 (ni_nz (by decide) (by decide)) (pk_div (by omega) (by decide) (by decide)) ?_
                          refine jv_iload X dX2_isIn_110 1 rfl ?_
                          refine jv_bipush (v := nI 10) X dX2_isIn_112 rfl ?_
                          refine jv_idiv (w := nI ((r % 1000) / 10)) X dX2_isIn_114 (ni_nz (by decide) (by decide)) (pk_div (by omega) (by decide) (by decide)) ?_
                          refine jn_icmp_ne 122 X dX2_isIn_115 (by decide) (by omega) (by omega) (fun c115 => ?_) (fun c115 => ?_)
                          · skip
                            refine jv_iconst (v := nI 0) X dX2_isIn_122 rfl ?_
                            exact j123_2 _ ((((((((((((if_neg c35).trans (if_pos c41)).trans (if_neg c47)).trans (if_pos c53)).trans (if_neg (Bool.eq_false_iff.mp c58))).trans (if_pos c64)).trans (if_pos c69)).trans (if_pos c75)).trans (if_pos c80)).trans (if_pos c98)).trans (if_neg (Bool.eq_false_iff.mp c103))).trans (if_neg c115)).symm
                          · skip
                            refine jv_iconst (v := nI 1) X dX2_isIn_118 rfl ?_
                            refine jv_goto 123 X dX2_isIn_119 (by decide) ?_
                            exact j123_2 _ ((((((((((((if_neg c35).trans (if_pos c41)).trans (if_neg c47)).trans (if_pos c53)).trans (if_neg (Bool.eq_false_iff.mp c58))).trans (if_pos c64)).trans (if_pos c69)).trans (if_pos c75)).trans (if_pos c80)).trans (if_pos c98)).trans (if_neg (Bool.eq_false_iff.mp c103))).trans (if_pos c115)).symm
                    · skip
                      refine jv_iload_n X dX2_isIn_83 5 rfl ?_
                      refine jv_bipush (v := nI 100) X dX2_isIn_84 rfl ?_
                      refine jv_idiv (w := nI (v / 100)) X dX2_isIn_86 (ni_nz (by decide) (by decide)) (pk_div (by omega) (by decide) (by decide)) ?_
                      refine jv_iload X dX2_isIn_87 1 rfl ?_
                      refine jv_bipush (v := nI 100) X dX2_isIn_89 rfl ?_
                      refine jv_idiv (w := nI ((r % 1000) / 100)) X dX2_isIn_91 (ni_nz (by decide) (by decide)) (pk_div (by omega) (by decide) (by decide)) ?_
                      refine jn_icmp_eq 118 X dX2_isIn_92 (by decide) (by omega) (by omega) (fun c92 => ?_) (fun c92 => ?_)
                      · skip
                        refine jv_iconst (v := nI 1) X dX2_isIn_118 rfl ?_
                        refine jv_goto 123 X dX2_isIn_119 (by decide) ?_
                        exact j123_2 _ ((((((((((if_neg c35).trans (if_pos c41)).trans (if_neg c47)).trans (if_pos c53)).trans (if_neg (Bool.eq_false_iff.mp c58))).trans (if_pos c64)).trans (if_pos c69)).trans (if_pos c75)).trans (if_neg (Bool.eq_false_iff.mp c80))).trans (if_pos c92)).symm
                      · skip
                        refine jv_iload X dX2_isIn_95 2 rfl ?_
                        refine jv_iconst (v := nI 5) X dX2_isIn_97 rfl ?_
                        refine jn_icmp_ne 122 X dX2_isIn_98 (by decide) (by omega) (by decide) (fun c98 => ?_) (fun c98 => ?_)
                        · skip
                          refine jv_iconst (v := nI 0) X dX2_isIn_122 rfl ?_
                          exact j123_2 _ (((((((((((if_neg c35).trans (if_pos c41)).trans (if_neg c47)).trans (if_pos c53)).trans (if_neg (Bool.eq_false_iff.mp c58))).trans (if_pos c64)).trans (if_pos c69)).trans (if_pos c75)).trans (if_neg (Bool.eq_false_iff.mp c80))).trans (if_neg c92)).trans (if_neg c98)).symm
                        · skip
                          refine jv_iload X dX2_isIn_101 0 rfl ?_
                          refine jb_if_ne 122 X dX2_isIn_103 (by decide) (fun c103 => ?_) (fun c103 => ?_)
                          · skip
                            refine jv_iconst (v := nI 0) X dX2_isIn_122 rfl ?_
                            exact j123_2 _ ((((((((((((if_neg c35).trans (if_pos c41)).trans (if_neg c47)).trans (if_pos c53)).trans (if_neg (Bool.eq_false_iff.mp c58))).trans (if_pos c64)).trans (if_pos c69)).trans (if_pos c75)).trans (if_neg (Bool.eq_false_iff.mp c80))).trans (if_neg c92)).trans (if_pos c98)).trans (if_pos c103)).symm
                          · skip
                            refine jv_iload_n X dX2_isIn_106 5 rfl ?_
                            refine jv_bipush (v := nI 10) X dX2_isIn_107 rfl ?_
                            refine jv_idiv (w := nI (v / 10)) X dX2_isIn_109 (ni_nz (by decide) (by decide)) (pk_div (by omega) (by decide) (by decide)) ?_
                            refine jv_iload X dX2_isIn_110 1 rfl ?_
                            refine jv_bipush (v := nI 10) X dX2_isIn_112 rfl ?_
                            refine jv_idiv (w := nI ((r % 1000) / 10)) X dX2_isIn_114 (ni_nz (by decide) (by decide)) (pk_div (by omega) (by decide) (by decide)) ?_
                            refine jn_icmp_ne 122 X dX2_isIn_115 (by decide) (by omega) (by omega) (fun c115 => ?_) (fun c115 => ?_)
                            · skip
                              refine jv_iconst (v := nI 0) X dX2_isIn_122 rfl ?_
                              exact j123_2 _ (((((((((((((if_neg c35).trans (if_pos c41)).trans (if_neg c47)).trans (if_pos c53)).trans (if_neg (Bool.eq_false_iff.mp c58))).trans (if_pos c64)).trans (if_pos c69)).trans (if_pos c75)).trans (if_neg (Bool.eq_false_iff.mp c80))).trans (if_neg c92)).trans (if_pos c98)).trans (if_neg (Bool.eq_false_iff.mp c103))).trans (if_neg c115)).symm
                            · skip
                              refine jv_iconst (v := nI 1) X dX2_isIn_118 rfl ?_
                              refine jv_goto 123 X dX2_isIn_119 (by decide) ?_
                              exact j123_2 _ (((((((((((((if_neg c35).trans (if_pos c41)).trans (if_neg c47)).trans (if_pos c53)).trans (if_neg (Bool.eq_false_iff.mp c58))).trans (if_pos c64)).trans (if_pos c69)).trans (if_pos c75)).trans (if_neg (Bool.eq_false_iff.mp c80))).trans (if_neg c92)).trans (if_pos c98)).trans (if_neg (Bool.eq_false_iff.mp c103))).trans (if_pos c115)).symm
  refine jn_icmp_ge 30 X dX2_isIn_23 (by decide) (v_order_lt (by omega)) (v_order_lt (by omega)) (fun c23 => ?_) (fun c23 => ?_)
  · skip
    refine jv_iconst (v := nI 0) X dX2_isIn_30 rfl ?_
    exact j31_1 _ (if_pos c23).symm
  · skip
    refine jv_iconst (v := nI 1) X dX2_isIn_26 rfl ?_
    refine jv_goto 31 X dX2_isIn_27 (by decide) ?_
    exact j31_1 _ (if_neg (Nat.not_le.mpr c23)).symm
theorem hd_X2_coversOf : jv_dd yX2_coversOf 2 := by unfold jv_dd; decide +kernel
set_option maxHeartbeats 4000000 in
theorem c_X2_coversOf {l : Launch} {G : jv_G} {o : md_O} {F : Nat → Int32} {A : Nat → Nat → Int32} {S : Nat → Nat} (hO : md_K G o) (hS : ∀ j, j < 237 → A 0 j = nI (S j)) (p : Nat) (r : Nat) (hp : p < 6) (hr : r < 6000) (hW : wfB S) : jv_Ct G l yX2_coversOf cX2_coversOf 5 (some .int) 2 0 0 49 [.ref o.2.1, .int (nI p), .int (nI r)] (md_M G o F A) (jv_qi G (jv_pi (nI (cov S p r)) (md_M G o F A))) := by
  refine jv_Ct.of (lv := [(0, .ref o.2.1), (1, .int (nI p)), (2, .int (nI r))]) (by decide) (Nat.le_of_ble_eq_true rfl) rfl ?_
  intro x Q_ hl_ hQ X
  subst hl_
  have hnv := hW.nv hp
  refine jv_iconst (v := nI 0) X dX2_coversOf_0 rfl ?_
  refine jv_istore_n (lv' := [(3, .int (nI 0)), (0, .ref o.2.1), (1, .int (nI p)), (2, .int (nI r))]) X dX2_coversOf_1 rfl (by decide) rfl ?_
  refine jv_iconst (v := nI 0) X dX2_coversOf_2 rfl ?_
  refine jv_istore (lv' := [(4, .int (nI 0)), (3, .int (nI 0)), (0, .ref o.2.1), (1, .int (nI p)), (2, .int (nI r))]) X dX2_coversOf_3 (by decide) rfl ?_
  have lp5_1 : ∀ (d_5 : Nat) (v : Nat) (w : Nat), v ≤ v_of S p 0 → w = covN S p r v → v_of S p 0 - v < d_5 → jv_J x G 5 Q_ (md_M G o F A) 0 0 5 [(0, .ref o.2.1), (1, .int (nI p)), (2, .int (nI r)), (3, .int (nI w)), (4, .int (nI v))] [] := by
    intro d_5
    induction d_5 with
    | zero => intro v w hv hw hm_5; exact absurd hm_5 (Nat.not_lt_zero _)
    | succ d_5 ih_5 =>
      intro v w hv hw hm_5
      refine jv_iload X dX2_coversOf_5 4 rfl ?_
      refine jv_aload_n X dX2_coversOf_7 0 rfl ?_
      refine jv_iload_n X dX2_coversOf_8 1 rfl ?_
      refine jv_iconst (v := nI 0) X dX2_coversOf_9 rfl ?_
      refine jv_ask (jv_runV (As := [.int (nI p), .int (nI 0)]) (rest := [.int (nI v)]) X dX2_coversOf_10 (c_X2_of hO hS p 0 (by omega) (by omega)) (lw_V q2115 q2117 qs42 q100 q2118) hd_X2_of md_M_o rfl (Nat.le_of_ble_eq_true rfl) (Nat.le_of_ble_eq_true rfl) (Nat.le_of_ble_eq_true rfl) (Nat.le_of_ble_eq_true rfl) rfl (Nat.le_of_ble_eq_true rfl)) ?_
      refine jn_icmp_ge 51 X dX2_coversOf_13 (by decide) (by omega) (by omega) (fun c13 => ?_) (fun c13 => ?_)
      · skip
        refine jv_iload_n X dX2_coversOf_51 3 rfl ?_
        exact jv_iret (v := nI w) X dX2_coversOf_52 rfl hQ (Nat.le_of_ble_eq_true rfl) (Nat.le_of_ble_eq_true rfl) ⟨(by rw [hw, show v = v_of S p 0 by omega]; rfl), rfl⟩
      · skip
        have hvr := hW.vr hp (v := v) (by omega)
        refine jv_iload_n X dX2_coversOf_16 3 rfl ?_
        refine jv_aload_n X dX2_coversOf_17 0 rfl ?_
        refine jv_iload_n X dX2_coversOf_18 1 rfl ?_
        refine jv_aload_n X dX2_coversOf_19 0 rfl ?_
        refine jv_iload_n X dX2_coversOf_20 1 rfl ?_
        refine jv_iconst (v := nI 2) X dX2_coversOf_21 rfl ?_
        refine jv_iload X dX2_coversOf_22 4 rfl ?_
        refine jv_iadd (w := nI (2 + v)) X dX2_coversOf_24 (nI_add _ _) ?_
        refine jv_ask (jv_runV (As := [.int (nI p), .int (nI (2 + v))]) (rest := [.int (nI p), .ref o.2.1, .int (nI w)]) X dX2_coversOf_25 (c_X2_of hO hS p (2 + v) (by omega) (by omega)) (lw_V q2115 q2117 qs42 q100 q2118) hd_X2_of md_M_o rfl (Nat.le_of_ble_eq_true rfl) (Nat.le_of_ble_eq_true rfl) (Nat.le_of_ble_eq_true rfl) (Nat.le_of_ble_eq_true rfl) rfl (Nat.le_of_ble_eq_true rfl)) ?_
        refine jv_iload_n X dX2_coversOf_28 2 rfl ?_
        refine jv_ask (jv_runV (As := [.int (nI p), .int (nI (v_of S p (2 + v))), .int (nI r)]) (rest := [.int (nI w)]) X dX2_coversOf_29 (c_X2_isIn hO hS p (v_of S p (2 + v)) r (by omega) hvr (by omega) hW) (lw_V q2157 q2159 qs48 q100 q2160) hd_X2_isIn md_M_o rfl (Nat.le_of_ble_eq_true rfl) (Nat.le_of_ble_eq_true rfl) (Nat.le_of_ble_eq_true rfl) (Nat.le_of_ble_eq_true rfl) rfl (Nat.le_of_ble_eq_true rfl)) ?_
        have j43_2 : ∀ wx : Nat, wx = (if (sIn (v_of S p 1) (v_of S p (2 + v)) r) = true then (2 ^ v) else 0) → jv_J x G 5 Q_ (md_M G o F A) 0 0 43 [(0, .ref o.2.1), (1, .int (nI p)), (2, .int (nI r)), (3, .int (nI w)), (4, .int (nI v))] [.int (nI wx), .int (nI w)] := by
          intro wx e_wx
          refine jv_ior (w := nI (w ||| wx)) X dX2_coversOf_43 (ni_or _ _) ?_
          refine jv_istore_n (lv' := [(3, .int (nI (w ||| wx))), (0, .ref o.2.1), (1, .int (nI p)), (2, .int (nI r)), (4, .int (nI v))]) X dX2_coversOf_44 rfl (by decide) rfl ?_
          refine jv_iinc (v := nI (v + 1)) (lv' := [(4, .int (nI (v + 1))), (3, .int (nI (w ||| wx))), (0, .ref o.2.1), (1, .int (nI p)), (2, .int (nI r))]) X dX2_coversOf_45 4 rfl (nI_1 _) (by decide) rfl ?_
          refine jv_goto 5 X dX2_coversOf_48 (by decide) ?_
          refine jv_lv (lv' := [(0, .ref o.2.1), (1, .int (nI p)), (2, .int (nI r)), (3, .int (nI (w ||| wx))), (4, .int (nI (v + 1)))]) [2, 3, 4, 1, 0] rfl ?_
          exact ih_5 (v + 1) (w ||| wx) (by omega) (by rw [hw, e_wx]; rfl) (by omega)
        refine jb_if_eq 42 X dX2_coversOf_32 (by decide) (fun c32 => ?_) (fun c32 => ?_)
        · skip
          refine jv_iconst (v := nI 0) X dX2_coversOf_42 rfl ?_
          exact j43_2 _ (if_neg (Bool.eq_false_iff.mp c32)).symm
        · skip
          refine jv_iconst (v := nI 1) X dX2_coversOf_35 rfl ?_
          refine jv_iload X dX2_coversOf_36 4 rfl ?_
          refine jv_ishl (w := nI (2 ^ v)) X dX2_coversOf_38 (ni_shl1 (by omega)) ?_
          refine jv_goto 43 X dX2_coversOf_39 (by decide) ?_
          exact j43_2 _ (if_pos c32).symm
  refine jv_lv (lv' := [(0, .ref o.2.1), (1, .int (nI p)), (2, .int (nI r)), (3, .int (nI 0)), (4, .int (nI 0))]) [2, 3, 4, 1, 0] rfl ?_
  exact lp5_1 (v_of S p 0 + 1) 0 0 (Nat.zero_le _) rfl (by omega)
theorem hd_X2_beforeOf : jv_dd yX2_beforeOf 2 := by unfold jv_dd; decide +kernel
set_option maxHeartbeats 4000000 in
theorem c_X2_beforeOf {l : Launch} {G : jv_G} {o : md_O} {F : Nat → Int32} {A : Nat → Nat → Int32} {S : Nat → Nat} (hO : md_K G o) (hS : ∀ j, j < 237 → A 0 j = nI (S j)) (p : Nat) (a : Nat) (hp : p < 6) (ha : a < 5) (hW : wfB S) : jv_Ct G l yX2_beforeOf cX2_beforeOf 5 (some .int) 1 0 0 22 [.ref o.2.1, .int (nI p), .int (nI a)] (md_M G o F A) (jv_qi G (jv_pi (nI (bef S p a)) (md_M G o F A))) := by
  refine jv_Ct.of (lv := [(0, .ref o.2.1), (1, .int (nI p)), (2, .int (nI a))]) (by decide) (Nat.le_of_ble_eq_true rfl) rfl ?_
  intro x Q_ hl_ hQ X
  subst hl_
  have hnv := hW.nv hp
  have hva := hW.vr hp ha
  refine jv_iconst (v := nI 0) X dX2_beforeOf_0 rfl ?_
  refine jv_istore_n (lv' := [(3, .int (nI 0)), (0, .ref o.2.1), (1, .int (nI p)), (2, .int (nI a))]) X dX2_beforeOf_1 rfl (by decide) rfl ?_
  refine jv_iconst (v := nI 0) X dX2_beforeOf_2 rfl ?_
  refine jv_istore (lv' := [(4, .int (nI 0)), (3, .int (nI 0)), (0, .ref o.2.1), (1, .int (nI p)), (2, .int (nI a))]) X dX2_beforeOf_3 (by decide) rfl ?_
  have lp5_1 : ∀ (d_5 : Nat) (v : Nat) (w : Nat), v ≤ v_of S p 0 → w = befN S p a v → v_of S p 0 - v < d_5 → jv_J x G 5 Q_ (md_M G o F A) 0 0 5 [(0, .ref o.2.1), (1, .int (nI p)), (2, .int (nI a)), (3, .int (nI w)), (4, .int (nI v))] [] := by
    intro d_5
    induction d_5 with
    | zero => intro v w hv hw hm_5; exact absurd hm_5 (Nat.not_lt_zero _)
    | succ d_5 ih_5 =>
      intro v w hv hw hm_5
      refine jv_iload X dX2_beforeOf_5 4 rfl ?_
      refine jv_aload_n X dX2_beforeOf_7 0 rfl ?_
      refine jv_iload_n X dX2_beforeOf_8 1 rfl ?_
      refine jv_iconst (v := nI 0) X dX2_beforeOf_9 rfl ?_
      refine jv_ask (jv_runV (As := [.int (nI p), .int (nI 0)]) (rest := [.int (nI v)]) X dX2_beforeOf_10 (c_X2_of hO hS p 0 (by omega) (by omega)) (lw_V q2115 q2117 qs42 q100 q2118) hd_X2_of md_M_o rfl (Nat.le_of_ble_eq_true rfl) (Nat.le_of_ble_eq_true rfl) (Nat.le_of_ble_eq_true rfl) (Nat.le_of_ble_eq_true rfl) rfl (Nat.le_of_ble_eq_true rfl)) ?_
      refine jn_icmp_ge 56 X dX2_beforeOf_13 (by decide) (by omega) (by omega) (fun c13 => ?_) (fun c13 => ?_)
      · skip
        refine jv_iload_n X dX2_beforeOf_56 3 rfl ?_
        exact jv_iret (v := nI w) X dX2_beforeOf_57 rfl hQ (Nat.le_of_ble_eq_true rfl) (Nat.le_of_ble_eq_true rfl) ⟨(by rw [hw, show v = v_of S p 0 by omega]; rfl), rfl⟩
      · skip
        have hvr := hW.vr hp (v := v) (by omega)
        refine jv_iload_n X dX2_beforeOf_16 3 rfl ?_
        refine jv_aload_n X dX2_beforeOf_17 0 rfl ?_
        refine jv_iload_n X dX2_beforeOf_18 1 rfl ?_
        refine jv_iconst (v := nI 2) X dX2_beforeOf_19 rfl ?_
        refine jv_iload X dX2_beforeOf_20 4 rfl ?_
        refine jv_iadd (w := nI (2 + v)) X dX2_beforeOf_22 (nI_add _ _) ?_
        refine jv_ask (jv_runV (As := [.int (nI p), .int (nI (2 + v))]) (rest := [.int (nI w)]) X dX2_beforeOf_23 (c_X2_of hO hS p (2 + v) (by omega) (by omega)) (lw_V q2115 q2117 qs42 q100 q2118) hd_X2_of md_M_o rfl (Nat.le_of_ble_eq_true rfl) (Nat.le_of_ble_eq_true rfl) (Nat.le_of_ble_eq_true rfl) (Nat.le_of_ble_eq_true rfl) rfl (Nat.le_of_ble_eq_true rfl)) ?_
        refine jv_ask (jv_runS (As := [.int (nI (v_of S p (2 + v)))]) (rest := [.int (nI w)]) X dX2_beforeOf_26 (c_X2_order (v_of S p (2 + v)) (by omega)) (lw_S q2135 q2136 q100 q2137) hd_X2_order (Nat.le_of_ble_eq_true rfl) (Nat.le_of_ble_eq_true rfl) (Nat.le_of_ble_eq_true rfl) (Nat.le_of_ble_eq_true rfl) rfl (Nat.le_of_ble_eq_true rfl)) ?_
        refine jv_aload_n X dX2_beforeOf_29 0 rfl ?_
        refine jv_iload_n X dX2_beforeOf_30 1 rfl ?_
        refine jv_iconst (v := nI 2) X dX2_beforeOf_31 rfl ?_
        refine jv_iload_n X dX2_beforeOf_32 2 rfl ?_
        refine jv_iadd (w := nI (2 + a)) X dX2_beforeOf_33 (nI_add _ _) ?_
        refine jv_ask (jv_runV (As := [.int (nI p), .int (nI (2 + a))]) (rest := [.int (nI (v_order (v_of S p (2 + v)))), .int (nI w)]) X dX2_beforeOf_34 (c_X2_of hO hS p (2 + a) (by omega) (by omega)) (lw_V q2115 q2117 qs42 q100 q2118) hd_X2_of md_M_o rfl (Nat.le_of_ble_eq_true rfl) (Nat.le_of_ble_eq_true rfl) (Nat.le_of_ble_eq_true rfl) (Nat.le_of_ble_eq_true rfl) rfl (Nat.le_of_ble_eq_true rfl)) ?_
        refine jv_ask (jv_runS (As := [.int (nI (v_of S p (2 + a)))]) (rest := [.int (nI (v_order (v_of S p (2 + v)))), .int (nI w)]) X dX2_beforeOf_37 (c_X2_order (v_of S p (2 + a)) (by omega)) (lw_S q2135 q2136 q100 q2137) hd_X2_order (Nat.le_of_ble_eq_true rfl) (Nat.le_of_ble_eq_true rfl) (Nat.le_of_ble_eq_true rfl) (Nat.le_of_ble_eq_true rfl) rfl (Nat.le_of_ble_eq_true rfl)) ?_
        have j48_2 : ∀ wx : Nat, wx = (if (v_order (v_of S p (2 + a))) ≤ (v_order (v_of S p (2 + v))) then 0 else 1) → jv_J x G 5 Q_ (md_M G o F A) 0 0 48 [(0, .ref o.2.1), (1, .int (nI p)), (2, .int (nI a)), (3, .int (nI w)), (4, .int (nI v))] [.int (nI wx), .int (nI w)] := by
          intro wx e_wx
          refine jv_iadd (w := nI (w + wx)) X dX2_beforeOf_48 (nI_add _ _) ?_
          refine jv_istore_n (lv' := [(3, .int (nI (w + wx))), (0, .ref o.2.1), (1, .int (nI p)), (2, .int (nI a)), (4, .int (nI v))]) X dX2_beforeOf_49 rfl (by decide) rfl ?_
          refine jv_iinc (v := nI (v + 1)) (lv' := [(4, .int (nI (v + 1))), (3, .int (nI (w + wx))), (0, .ref o.2.1), (1, .int (nI p)), (2, .int (nI a))]) X dX2_beforeOf_50 4 rfl (nI_1 _) (by decide) rfl ?_
          refine jv_goto 5 X dX2_beforeOf_53 (by decide) ?_
          refine jv_lv (lv' := [(0, .ref o.2.1), (1, .int (nI p)), (2, .int (nI a)), (3, .int (nI (w + wx))), (4, .int (nI (v + 1)))]) [2, 3, 4, 1, 0] rfl ?_
          exact ih_5 (v + 1) (w + wx) (by omega) (by rw [hw, e_wx]; rfl) (by omega)
        refine jn_icmp_ge 47 X dX2_beforeOf_40 (by decide) (v_order_lt (by omega)) (v_order_lt (by omega)) (fun c40 => ?_) (fun c40 => ?_)
        · skip
          refine jv_iconst (v := nI 0) X dX2_beforeOf_47 rfl ?_
          exact j48_2 _ (if_pos c40).symm
        · skip
          refine jv_iconst (v := nI 1) X dX2_beforeOf_43 rfl ?_
          refine jv_goto 48 X dX2_beforeOf_44 (by decide) ?_
          exact j48_2 _ (if_neg (Nat.not_le.mpr c40)).symm
  refine jv_lv (lv' := [(0, .ref o.2.1), (1, .int (nI p)), (2, .int (nI a)), (3, .int (nI 0)), (4, .int (nI 0))]) [2, 3, 4, 1, 0] rfl ?_
  exact lp5_1 (v_of S p 0 + 1) 0 0 (Nat.zero_le _) rfl (by omega)
theorem hd_X2_rulesOf : jv_dd yX2_rulesOf 2 := by unfold jv_dd; decide +kernel
set_option maxHeartbeats 4000000 in
theorem c_X2_rulesOf {l : Launch} {G : jv_G} {o : md_O} {F : Nat → Int32} {A : Nat → Nat → Int32} {S : Nat → Nat} (hO : md_K G o) (hS : ∀ j, j < 237 → A 0 j = nI (S j)) (p : Nat) (a : Nat) (hp : p < 6) (ha : a < 5) (hW : wfB S) : jv_Ct G l yX2_rulesOf cX2_rulesOf 5 (some .int) 1 0 0 22 [.ref o.2.1, .int (nI p), .int (nI a)] (md_M G o F A) (jv_qi G (jv_pi (nI (rls S p a)) (md_M G o F A))) := by
  refine jv_Ct.of (lv := [(0, .ref o.2.1), (1, .int (nI p)), (2, .int (nI a))]) (by decide) (Nat.le_of_ble_eq_true rfl) rfl ?_
  intro x Q_ hl_ hQ X
  subst hl_
  have hnr := hW.r
  refine jv_iconst (v := nI 0) X dX2_rulesOf_0 rfl ?_
  refine jv_istore_n (lv' := [(3, .int (nI 0)), (0, .ref o.2.1), (1, .int (nI p)), (2, .int (nI a))]) X dX2_rulesOf_1 rfl (by decide) rfl ?_
  refine jv_iconst (v := nI 0) X dX2_rulesOf_2 rfl ?_
  refine jv_istore (lv' := [(4, .int (nI 0)), (3, .int (nI 0)), (0, .ref o.2.1), (1, .int (nI p)), (2, .int (nI a))]) X dX2_rulesOf_3 (by decide) rfl ?_
  have lp5_1 : ∀ (d_5 : Nat) (v : Nat) (w : Nat), v ≤ S 1 → w = rlsN S p a v → S 1 - v < d_5 → jv_J x G 5 Q_ (md_M G o F A) 0 0 5 [(0, .ref o.2.1), (1, .int (nI p)), (2, .int (nI a)), (3, .int (nI w)), (4, .int (nI v))] [] := by
    intro d_5
    induction d_5 with
    | zero => intro v w hv hw hm_5; exact absurd hm_5 (Nat.not_lt_zero _)
    | succ d_5 ih_5 =>
      intro v w hv hw hm_5
      refine jv_iload X dX2_rulesOf_5 4 rfl ?_
      refine jv_aload_n X dX2_rulesOf_7 0 rfl ?_
      refine jm_getA X dX2_rulesOf_8 0 (by decide) q2010 rfl ?_
      refine jv_iconst (v := nI 1) X dX2_rulesOf_11 rfl ?_
      refine jm_ld (v := nI (S 1)) X hO dX2_rulesOf_12 0 (by decide) (show 1 < 237 from (by omega)) (hS _ (by omega)) ?_
      refine jn_icmp_ge 67 X dX2_rulesOf_13 (by decide) (by omega) (by omega) (fun c13 => ?_) (fun c13 => ?_)
      · skip
        refine jv_iload_n X dX2_rulesOf_67 3 rfl ?_
        exact jv_iret (v := nI w) X dX2_rulesOf_68 rfl hQ (Nat.le_of_ble_eq_true rfl) (Nat.le_of_ble_eq_true rfl) ⟨(by rw [hw, show v = S 1 by omega]; rfl), rfl⟩
      · skip
        have hk0 := hW.rk (r := v) (by omega)
        have hk1 := hW.r1 (r := v) (by omega)
        have hk2 := hW.r2 (r := v) (by omega)
        refine jv_iload_n X dX2_rulesOf_16 3 rfl ?_
        refine jv_aload_n X dX2_rulesOf_17 0 rfl ?_
        refine jv_iload X dX2_rulesOf_18 4 rfl ?_
        refine jv_iconst (v := nI 0) X dX2_rulesOf_20 rfl ?_
        refine jv_ask (jv_runV (As := [.int (nI v), .int (nI 0)]) (rest := [.int (nI w)]) X dX2_rulesOf_21 (c_X2_ofRule hO hS v 0 (by omega) (by omega)) (lw_V q2142 q2144 qs46 q100 q2145) hd_X2_ofRule md_M_o rfl (Nat.le_of_ble_eq_true rfl) (Nat.le_of_ble_eq_true rfl) (Nat.le_of_ble_eq_true rfl) (Nat.le_of_ble_eq_true rfl) rfl (Nat.le_of_ble_eq_true rfl)) ?_
        refine jv_iconst (v := nI 1) X dX2_rulesOf_24 rfl ?_
        refine jv_iconst (v := nI 2) X dX2_rulesOf_25 rfl ?_
        refine jv_ask (jv_runS (As := [.int (nI (v_ofRule S v 0)), .int (nI 1), .int (nI 2)]) (rest := [.int (nI w)]) X dX2_rulesOf_26 (c_X2_inN (v_ofRule S v 0) 1 2 (by omega) (by decide) (by decide)) (lw_S q2112 q2113 q100 q2114) hd_X2_in (Nat.le_of_ble_eq_true rfl) (Nat.le_of_ble_eq_true rfl) (Nat.le_of_ble_eq_true rfl) (Nat.le_of_ble_eq_true rfl) rfl (Nat.le_of_ble_eq_true rfl)) ?_
        have j59_2 : ∀ wx : Nat, wx = (if (v_inN (v_ofRule S v 0) 1 2) = true then (if (v_ofRule S v 1) = p then (if (v_ofRule S v 2) = a then 1 else 0) else 0) else 0) → jv_J x G 5 Q_ (md_M G o F A) 0 0 59 [(0, .ref o.2.1), (1, .int (nI p)), (2, .int (nI a)), (3, .int (nI w)), (4, .int (nI v))] [.int (nI wx), .int (nI w)] := by
          intro wx e_wx
          refine jv_iadd (w := nI (w + wx)) X dX2_rulesOf_59 (nI_add _ _) ?_
          refine jv_istore_n (lv' := [(3, .int (nI (w + wx))), (0, .ref o.2.1), (1, .int (nI p)), (2, .int (nI a)), (4, .int (nI v))]) X dX2_rulesOf_60 rfl (by decide) rfl ?_
          refine jv_iinc (v := nI (v + 1)) (lv' := [(4, .int (nI (v + 1))), (3, .int (nI (w + wx))), (0, .ref o.2.1), (1, .int (nI p)), (2, .int (nI a))]) X dX2_rulesOf_61 4 rfl (nI_1 _) (by decide) rfl ?_
          refine jv_goto 5 X dX2_rulesOf_64 (by decide) ?_
          refine jv_lv (lv' := [(0, .ref o.2.1), (1, .int (nI p)), (2, .int (nI a)), (3, .int (nI (w + wx))), (4, .int (nI (v + 1)))]) [2, 3, 4, 1, 0] rfl ?_
          exact ih_5 (v + 1) (w + wx) (by omega) (by rw [hw, e_wx]; rfl) (by omega)
        refine jb_if_eq 58 X dX2_rulesOf_29 (by decide) (fun c29 => ?_) (fun c29 => ?_)
        · skip
          refine jv_iconst (v := nI 0) X dX2_rulesOf_58 rfl ?_
          exact j59_2 _ (if_neg (Bool.eq_false_iff.mp c29)).symm
        · skip
          refine jv_aload_n X dX2_rulesOf_32 0 rfl ?_
          refine jv_iload X dX2_rulesOf_33 4 rfl ?_
          refine jv_iconst (v := nI 1) X dX2_rulesOf_35 rfl ?_
          refine jv_ask (jv_runV (As := [.int (nI v), .int (nI 1)]) (rest := [.int (nI w)]) X dX2_rulesOf_36 (c_X2_ofRule hO hS v 1 (by omega) (by omega)) (lw_V q2142 q2144 qs46 q100 q2145) hd_X2_ofRule md_M_o rfl (Nat.le_of_ble_eq_true rfl) (Nat.le_of_ble_eq_true rfl) (Nat.le_of_ble_eq_true rfl) (Nat.le_of_ble_eq_true rfl) rfl (Nat.le_of_ble_eq_true rfl)) ?_
          refine jv_iload_n X dX2_rulesOf_39 1 rfl ?_
          refine jn_icmp_ne 58 X dX2_rulesOf_40 (by decide) (by omega) (by omega) (fun c40 => ?_) (fun c40 => ?_)
          · skip
            refine jv_iconst (v := nI 0) X dX2_rulesOf_58 rfl ?_
            exact j59_2 _ ((if_pos c29).trans (if_neg c40)).symm
          · skip
            refine jv_aload_n X dX2_rulesOf_43 0 rfl ?_
            refine jv_iload X dX2_rulesOf_44 4 rfl ?_
            refine jv_iconst (v := nI 2) X dX2_rulesOf_46 rfl ?_
            refine jv_ask (jv_runV (As := [.int (nI v), .int (nI 2)]) (rest := [.int (nI w)]) X dX2_rulesOf_47 (c_X2_ofRule hO hS v 2 (by omega) (by omega)) (lw_V q2142 q2144 qs46 q100 q2145) hd_X2_ofRule md_M_o rfl (Nat.le_of_ble_eq_true rfl) (Nat.le_of_ble_eq_true rfl) (Nat.le_of_ble_eq_true rfl) (Nat.le_of_ble_eq_true rfl) rfl (Nat.le_of_ble_eq_true rfl)) ?_
            refine jv_iload_n X dX2_rulesOf_50 2 rfl ?_
            refine jn_icmp_ne 58 X dX2_rulesOf_51 (by decide) (by omega) (by omega) (fun c51 => ?_) (fun c51 => ?_)
            · skip
              refine jv_iconst (v := nI 0) X dX2_rulesOf_58 rfl ?_
              exact j59_2 _ (((if_pos c29).trans (if_pos c40)).trans (if_neg c51)).symm
            · skip
              refine jv_iconst (v := nI 1) X dX2_rulesOf_54 rfl ?_
              refine jv_goto 59 X dX2_rulesOf_55 (by decide) ?_
              exact j59_2 _ (((if_pos c29).trans (if_pos c40)).trans (if_pos c51)).symm
  refine jv_lv (lv' := [(0, .ref o.2.1), (1, .int (nI p)), (2, .int (nI a)), (3, .int (nI 0)), (4, .int (nI 0))]) [2, 3, 4, 1, 0] rfl ?_
  exact lp5_1 (S 1 + 1) 0 0 (Nat.zero_le _) rfl (by omega)
