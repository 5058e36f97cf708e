/-! the solver: states told -/
set_option maxRecDepth 100000
theorem nI_clN {x : Int32} (h : ¬ x < 0) : nI x.toNatClampNeg = x := by
  obtain ⟨j, hj, rfl⟩ := nI_of h
  rw [nI_clamp hj]
theorem jk_F.tens {B : Nat} {σ : jk_A} {U : State} (h : jk_F B σ U) : va_Z "VersionSolver" "TENS" "[I" (.ref (σ.2.2 0)) (fun q => B ≤ q) U U.heap := h.2.2.1.1.1
theorem jk_F.tensT {B : Nat} {σ : jk_A} {U : State} (h : jk_F B σ U) : va_T .int (σ.2.2 0) 7 (fun j => .int (nI (10 ^ j))) (fun q => B ≤ q) U U.heap := h.2.2.1.1.2
theorem jv_tens {x : jv_X} {G : jv_G} {y : MethodName} {cc : ByteArray} {nL fr mc ms lo : Nat} {ret : Option FieldType} {Q : State → Prop} {M : jv_M} {k n pc : Nat} {lv : List (Nat × Value)} {st : List Value} {σ : jk_A} {i : Nat} (X : jv_C x G y cc nL ret fr mc ms lo) (d : decode cc pc = .ok (.iaload, 1)) (hG : jk_G G σ) (hi : i < 7)
    (kk : jv_J x G nL Q M k n (pc + 1) lv (.int (nI (10 ^ i)) :: st)) : jv_J x G nL Q M k n pc lv (.int (nI i) :: .ref (σ.2.2 0) :: st) :=
  jv_ialdK (v := .int (nI (10 ^ i))) X d (hG.f X).tensT (jn_in (by omega) (by omega)) (by rw [nI_clamp (by omega)]) kk
def ast (S : Nat → Nat) (told : Int32) : Bool := if told < 0 then false else (if told.toNatClampNeg / 10 ^ S 0 = 0 then gooN S told.toNatClampNeg (S 0) else false)
theorem ten_b : ∀ i, i < 7 → 10 ^ i < 2 ^ 31 := by decide +kernel
theorem ten_p : ∀ i, 0 < 10 ^ i := fun i => Nat.pow_pos (by decide)
theorem goo_f {S : Nat → Nat} {t p : Nat} (h : v_isState S (nI p) (nI (tol t p)) = false) : ∀ {n : Nat}, p < n → gooN S t n = false
  | 0, hn => absurd hn (Nat.not_lt_zero _)
  | n + 1, hn => by
    unfold gooN
    by_cases e : p = n
    · rw [← e, h]; split <;> rfl
    · rw [goo_f h (show p < n by omega)]; rfl
theorem ist_e {S : Nat → Nat} (hW : wfB S) {p : Nat} (hp : p < S 0) (v : Int32) : (if v = nI 5 then true else v_in v (nI 0) (nI (v_of S p 0) - nI 1)) = v_isState S (nI p) v := by
  have h6 := hW.p
  have h1 : v_isPack S (nI p) = true := by
    unfold v_isPack
    exact v_in_dn (by omega) hp
  have h := vst_e (v := v) h1
  rw [nI_clamp (by omega)] at h
  exact h
theorem t_nb (x : Int32) : x.toNatClampNeg < 2 ^ 31 := by
  have h := Int32.toInt_lt x
  show x.toInt.toNat < 2 ^ 31
  omega
theorem hd_X0_areStates : jv_dd yX0_areStates 1 := by unfold jv_dd; decide +kernel
set_option maxHeartbeats 4000000 in
theorem c_X0_areStates {l : Launch} {G : jv_G} {M : jv_M} {σ : jk_A} (hG : jk_G G σ) {τ : Nat → Nat} {xa b pa ip rp : Nat} {sv : Option Nat} {eA_ fA_ : Int32} {S : Nat → Nat} (hx : M xa = some (.inr (0, [.ref b, .ref pa, .ref ip, .ref rp, va_rf sv,   .int eA_, .int fA_]))) (hB : jbd G M τ b S) (hS : wfS S) (hL : wfL S) (hPP : wfP S) (hV : wfV S) (t_ : Int32)  : jv_Ct G l yX0_areStates cX0_areStates 3 (some .boolean) 3 0 0 64 [.ref xa, .int t_] M (jv_qi G (jv_pi (bI (ast S t_)) M)) := by
  refine jv_Ct.of (lv := [(0, .ref xa), (1, .int t_)]) (by decide) (Nat.le_of_ble_eq_true rfl) rfl ?_
  intro x Q_ hl_ hQ X
  subst hl_
  have hB_ := hB
  obtain ⟨lp, lr, la, P, R, A, hb, hfb, ⟨⟨mp_, ep, fp, hlp, hep, hn6, hfp, -, -, -⟩, hP⟩, ⟨⟨mr_, er, fr_, hlr, her, hn30, hfr_, -, -, -⟩, hR⟩, ⟨ma_, ea, fa, hla, hea, hn6a, hfa, -, -, -⟩, hA⟩ := hB
  have hW := hS.1
  have hp0 := hW.p
  have hr0 := hW.r
  have ha0 := hW.a
  refine jv_iload_n X dX0_areStates_0 1 rfl ?_
  refine jv_if_lt 22 X dX0_areStates_1 (by decide) (fun c1 => ?_) (fun c1 => ?_)
  · skip
    refine jv_iconst (v := nI 0) X dX0_areStates_22 rfl ?_
    exact jv_iret (v := bI false) X dX0_areStates_23 (bI_nar _) hQ (Nat.le_of_ble_eq_true rfl) (Nat.le_of_ble_eq_true rfl) ⟨(congrArg bI (show false = ast S t_ by unfold ast; rw [if_pos c1])), rfl⟩
  · skip
    have hp6_ : S 0 < 7 := by omega
    have htb_ := ten_b (S 0) hp6_
    refine jv_iload_n X dX0_areStates_4 1 rfl ?_
    have hq_t_ : nI (t_.toNatClampNeg) = t_ := (nI_clN c1)
    refine jv_to (lv' := [(0, .ref xa), (1, .int (nI t_.toNatClampNeg))]) (st' := [.int (nI t_.toNatClampNeg)]) (by rw [hq_t_]) (by rw [hq_t_]) ?_
    refine jv_gets (v := .ref (σ.2.2 0)) X dX0_areStates_5 (hG.f X).tens q1363 ?_
    refine jv_aload_n X dX0_areStates_8 0 rfl ?_
    refine jv_get X dX0_areStates_9 hx (T := TX0) (N := 7) (C := RX0) rfl in_X0 0 (by decide) q257 rfl rfl ?_
    refine jv_getN X dX0_areStates_12 hb (T := TX1) (N := 3) (C := RX1) rfl in_X1 0 (by decide) q183 rfl rfl ?_
    refine jv_ask (jv_runV (As := []) (rest := [.ref (σ.2.2 0), .int (nI t_.toNatClampNeg)]) X dX0_areStates_15 (c_J2_size hlp) (lw_V q283 q284 q285 q94 q286) hd_J2_size hlp rfl (Nat.le_of_ble_eq_true rfl) (Nat.le_of_ble_eq_true rfl) (Nat.le_of_ble_eq_true rfl) (Nat.le_of_ble_eq_true rfl) rfl (Nat.le_of_ble_eq_true rfl)) ?_
    refine jv_tens X dX0_areStates_18 hG (show (S 0) < 7 from hp6_) ?_
    refine jn_icmp_lt 24 X dX0_areStates_19 (by decide) (t_nb t_) htb_ (fun c19 => ?_) (fun c19 => ?_)
    · skip
      refine jv_iconst (v := nI 0) X dX0_areStates_24 rfl ?_
      refine jv_istore_n (lv' := [(2, .int (nI 0)), (0, .ref xa), (1, .int (nI t_.toNatClampNeg))]) X dX0_areStates_25 rfl (by decide) rfl ?_
      have lp26_1 : ∀ (d_26 : Nat) (p : Nat), p ≤ S 0 → gooN S t_.toNatClampNeg p = true → S 0 - p < d_26 → jv_J x G 3 Q_ M 0 0 26 [(0, .ref xa), (1, .int (nI t_.toNatClampNeg)), (2, .int (nI p))] [] := by
        intro d_26
        induction d_26 with
        | zero => intro p hp_ hg hm_26; exact absurd hm_26 (Nat.not_lt_zero _)
        | succ d_26 ih_26 =>
          intro p hp_ hg hm_26
          refine jv_iload_n X dX0_areStates_26 2 rfl ?_
          refine jv_aload_n X dX0_areStates_27 0 rfl ?_
          refine jv_get X dX0_areStates_28 hx (T := TX0) (N := 7) (C := RX0) rfl in_X0 0 (by decide) q257 rfl rfl ?_
          refine jv_getN X dX0_areStates_31 hb (T := TX1) (N := 3) (C := RX1) rfl in_X1 0 (by decide) q183 rfl rfl ?_
          refine jv_ask (jv_runV (As := []) (rest := [.int (nI p)]) X dX0_areStates_34 (c_J2_size hlp) (lw_V q283 q284 q285 q94 q286) hd_J2_size hlp rfl (Nat.le_of_ble_eq_true rfl) (Nat.le_of_ble_eq_true rfl) (Nat.le_of_ble_eq_true rfl) (Nat.le_of_ble_eq_true rfl) rfl (Nat.le_of_ble_eq_true rfl)) ?_
          refine jn_icmp_ge 78 X dX0_areStates_37 (by decide) (by omega) (by omega) (fun c37 => ?_) (fun c37 => ?_)
          · skip
            refine jv_iconst (v := nI 1) X dX0_areStates_78 rfl ?_
            exact jv_iret (v := bI true) X dX0_areStates_79 (bI_nar _) hQ (Nat.le_of_ble_eq_true rfl) (Nat.le_of_ble_eq_true rfl) ⟨(congrArg bI (show true = ast S t_ by unfold ast; rw [if_neg c1, if_pos (Nat.div_eq_of_lt c19), show S 0 = p by omega, hg])), rfl⟩
          · skip
            have htp_ := ten_b p (by omega)
            have htz_ := ten_p p
            refine jv_aload_n X dX0_areStates_40 0 rfl ?_
            refine jv_get X dX0_areStates_41 hx (T := TX0) (N := 7) (C := RX0) rfl in_X0 0 (by decide) q257 rfl rfl ?_
            refine jv_getN X dX0_areStates_44 hb (T := TX1) (N := 3) (C := RX1) rfl in_X1 0 (by decide) q183 rfl rfl ?_
            refine jv_iload_n X dX0_areStates_47 2 rfl ?_
            refine jv_callr (jv_runV (As := [.int (nI p)]) (rest := []) X dX0_areStates_48 (c_J2_get hlp hep p (P p) (by omega) (by omega) (by omega) (by rw [hfp _ (by omega)]; rfl)) (lw_V q532 q533 q534 q94 q535) hd_J2_get hlp rfl (Nat.le_of_ble_eq_true rfl) (Nat.le_of_ble_eq_true rfl) (Nat.le_of_ble_eq_true rfl) (Nat.le_of_ble_eq_true rfl) rfl (Nat.le_of_ble_eq_true rfl)) (fun rr_ M_ h_ => ?_)
            obtain ⟨hr_, hm_⟩ := h_
            rw [hr_, hm_]
            clear hr_ hm_
            obtain ⟨lv_3, V_3, hpk_3, -, ⟨mv_3, ev_3, fv_3, hlv_3, hev_3, hnv_3, hfv_3, -, -, -⟩, hvv_3⟩ := hP p (by omega)
            have hnv5_3 := hW.nv (show p < 6 by omega)
            refine jv_castS X dX0_areStates_51 hpk_3 (r := (RX3, TX3, 2)) rfl q465 ?_
            refine jv_iload_n X dX0_areStates_54 1 rfl ?_
            refine jv_gets (v := .ref (σ.2.2 0)) X dX0_areStates_55 (hG.f X).tens q1363 ?_
            refine jv_iload_n X dX0_areStates_58 2 rfl ?_
            refine jv_tens X dX0_areStates_59 hG (show p < 7 from (by omega)) ?_
            refine jv_idiv (w := nI (t_.toNatClampNeg / (10 ^ p))) X dX0_areStates_60 (ni_nz (by omega) (by omega)) (pk_div (t_nb t_) (by omega) (by omega)) ?_
            refine jv_bipush (v := nI 10) X dX0_areStates_61 rfl ?_
            refine jv_irem (w := nI ((t_.toNatClampNeg / (10 ^ p)) % 10)) X dX0_areStates_63 (ni_nz (by decide) (by decide)) (pk_rem (Nat.lt_of_le_of_lt (Nat.div_le_self _ _) (t_nb t_)) (by decide) (by decide)) ?_
            refine jv_ask (jv_runV (As := [.int (nI ((t_.toNatClampNeg / (10 ^ p)) % 10))]) (rest := []) X dX0_areStates_64 (c_X3_isState (hP p (by omega)) hW (by omega) (nI ((t_.toNatClampNeg / (10 ^ p)) % 10))) (lw_V q1041 q1042 q1043 q102 q1044) hd_X3_isState hpk_3 rfl (Nat.le_of_ble_eq_true rfl) (Nat.le_of_ble_eq_true rfl) (Nat.le_of_ble_eq_true rfl) (Nat.le_of_ble_eq_true rfl) rfl (Nat.le_of_ble_eq_true rfl)) ?_
            refine jb_if_ne 72 X dX0_areStates_67 (by decide) (fun c67 => ?_) (fun c67 => ?_)
            · skip
              refine jv_iinc (v := nI (p + 1)) (lv' := [(2, .int (nI (p + 1))), (0, .ref xa), (1, .int (nI t_.toNatClampNeg))]) X dX0_areStates_72 2 rfl (nI_1 _) (by decide) rfl ?_
              refine jv_goto 26 X dX0_areStates_75 (by decide) ?_
              refine jv_lv (lv' := [(0, .ref xa), (1, .int (nI t_.toNatClampNeg)), (2, .int (nI (p + 1)))]) [1, 2, 0] rfl ?_
              exact ih_26 (p + 1) (by omega) (by unfold gooN; rw [if_pos hg, if_pos (show v_isState S (nI p) (nI (tol t_.toNatClampNeg p)) = true from (ist_e hW (by omega) _).symm.trans c67)]) (by omega)
            · skip
              refine jv_iconst (v := nI 0) X dX0_areStates_70 rfl ?_
              exact jv_iret (v := bI false) X dX0_areStates_71 (bI_nar _) hQ (Nat.le_of_ble_eq_true rfl) (Nat.le_of_ble_eq_true rfl) ⟨(congrArg bI (show false = ast S t_ by unfold ast; rw [if_neg c1, if_pos (Nat.div_eq_of_lt c19)]; exact (goo_f (p := p) ((ist_e hW (by omega) _).symm.trans c67) (by omega)).symm)), rfl⟩
      refine jv_lv (lv' := [(0, .ref xa), (1, .int (nI t_.toNatClampNeg)), (2, .int (nI 0))]) [1, 2, 0] rfl ?_
      exact lp26_1 (S 0 + 1) 0 (Nat.zero_le _) rfl (by omega)
    · skip
      refine jv_iconst (v := nI 0) X dX0_areStates_22 rfl ?_
      exact jv_iret (v := bI false) X dX0_areStates_23 (bI_nar _) hQ (Nat.le_of_ble_eq_true rfl) (Nat.le_of_ble_eq_true rfl) ⟨(congrArg bI (show false = ast S t_ by unfold ast; rw [if_neg c1, if_neg (fun z => absurd c19 (Nat.not_le.mpr (by have := (Nat.div_eq_zero_iff.mp z); have := ten_p (S 0); omega)))])), rfl⟩
