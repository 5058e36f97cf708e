/-! the component, eighth: leavesOut -/
set_option maxRecDepth 100000
theorem hd_X11_init : jv_dd yX11_init 4 := by unfold jv_dd; decide +kernel
set_option maxHeartbeats 4000000 in
theorem c_X11_init {l : Launch} {G : jv_G} {M : jv_M} {a : Nat} (ha : M a = some (.inr (9, [.int 0, .int 0, .int 0, .long 0]))) (hf : G.1 ≤ a) (u : Nat) (v : Nat) (w_ : Nat) (z_ : Nat)  : jv_Ct G l yX11_init cX11_init 6 (none) 1 0 0 30 [.ref a, .int (nI u), .int (nI v), .int (nI w_), .long (lN z_)] M (jv_qv G (fun M' => M' = jv_up M a (.inr (9, [.int (nI u), .int (nI v), .int (nI w_), .long (lN z_)])))) := by
  refine jv_Ct.of (lv := [(0, .ref a), (1, .int (nI u)), (2, .int (nI v)), (3, .int (nI w_)), (4, .long (lN z_))]) (by decide) (Nat.le_of_ble_eq_true rfl) rfl ?_
  intro x Q_ hl_ hQ X
  subst hl_
  refine jv_aload_n X dX11_init_0 0 rfl ?_
  refine jv_obj0 X dX11_init_1 q981 (Nat.le_of_ble_eq_true rfl) (Nat.le_of_ble_eq_true rfl) ?_
  refine jv_aload_n X dX11_init_4 0 rfl ?_
  refine jv_iload_n X dX11_init_5 1 rfl ?_
  refine jv_putF (fs' := [.int (nI u), .int 0, .int 0, .long 0]) X dX11_init_6 ha hf (T := TX11) (N := 4) (C := RX11) rfl in_X11 tyX11 tyX11_ok nmX11 0 (by decide) q982 rfl rfl rfl rfl rfl rfl rfl (show 0 < 4 from by decide) rfl ?_
  refine jv_aload_n X dX11_init_9 0 rfl ?_
  refine jv_iload_n X dX11_init_10 2 rfl ?_
  refine jv_putF (fs' := [.int (nI u), .int (nI v), .int 0, .long 0]) X dX11_init_11 jv_up_s hf (T := TX11) (N := 4) (C := RX11) rfl in_X11 tyX11 tyX11_ok nmX11 1 (by decide) q985 rfl rfl rfl rfl rfl rfl rfl (show 1 < 4 from by decide) rfl ?_
  rw [jv_up_up]
  refine jv_aload_n X dX11_init_14 0 rfl ?_
  refine jv_iload_n X dX11_init_15 3 rfl ?_
  refine jv_putF (fs' := [.int (nI u), .int (nI v), .int (nI w_), .long 0]) X dX11_init_16 jv_up_s hf (T := TX11) (N := 4) (C := RX11) rfl in_X11 tyX11 tyX11_ok nmX11 2 (by decide) q988 rfl rfl rfl rfl rfl rfl rfl (show 2 < 4 from by decide) rfl ?_
  rw [jv_up_up]
  refine jv_aload_n X dX11_init_19 0 rfl ?_
  refine jv_lload X dX11_init_20 4 rfl ?_
  refine jv_putF (fs' := [.int (nI u), .int (nI v), .int (nI w_), .long (lN z_)]) X dX11_init_22 jv_up_s hf (T := TX11) (N := 4) (C := RX11) rfl in_X11 tyX11 tyX11_ok nmX11 3 (by decide) q991 rfl rfl rfl rfl rfl rfl rfl (show 3 < 4 from by decide) rfl ?_
  rw [jv_up_up]
  exact jv_vret X dX11_init_25 hQ (Nat.le_of_ble_eq_true rfl) (Nat.le_of_ble_eq_true rfl) rfl
theorem hd_X10_leavesOut : jv_dd yX10_leavesOut 3 := by unfold jv_dd; decide +kernel
set_option maxHeartbeats 4000000 in
theorem c_X10_leavesOut {l : Launch} {G : jv_G} {M : jv_M} {σ : jk_A} (hG : jk_G G σ) {B : jv_M} {τ : Nat → Nat} {b t : Nat} {S : Nat → Nat} {T : t_T2} (hB : jbd G B τ b S) (hS : wfS S) (hL : wfL S) (hPP : wfP S) (hT : jtr G σ B M S b t T) (hk : okT T) (hwT : wfT S T) (who : Nat) (p : Nat) (x_ : Int32) (hw : who < S 1 ∨ (100 ≤ who ∧ who < 106)) (hp : p < S 0) (hrl : who < S 1 → rlv S who p) : jv_Ct G l yX10_leavesOut cX10_leavesOut 7 (none) 8 (2 * (tn (lvT who p x_ T) - tn T)) (64 * (tn (lvT who p x_ T) - tn T)) 271 [.ref t, .int (nI who), .int (nI p), .int x_] M (jv_qv G (fun M' => jtr G σ B M' S b t (lvT who p x_ T))) := by
  refine jv_Ct.of (lv := [(0, .ref t), (1, .int (nI who)), (2, .int (nI p)), (3, .int x_)]) (by decide) (Nat.le_of_ble_eq_true rfl) rfl ?_
  intro x Q_ hl_ hQ X
  subst hl_
  have hT' := hT
  have hT_ := hT
  have hB0 := hB
  obtain ⟨ma, le, sl, N, e, mc, gm, gl, f, V, hT'⟩ := hT'
  obtain ⟨⟨ht, hft, hnt⟩, ⟨hma, hfma, hnma, hgm⟩, ⟨hle, hfle, hnle, hgl⟩, hml, ⟨hdl, hnsl, hne⟩, hV, hag⟩ := id hT'
  obtain ⟨hsl, hfsl, hnN, hN60, hdl4⟩ := id hdl
  have hn36 := hk.1
  replace hB := hB.sub hag hS.1.p
  have hBM := hB
  obtain ⟨lp, lr, la, P, R, A, hb, hfb, ⟨⟨mp_, ep, fp, hlp, hep, hn6, hfp, -, -, -⟩, hP⟩, ⟨⟨mr_, er, fr_, hlr, her, hn30, hfr_, -, -, -⟩, hR⟩, ⟨ma_, ea, fa, hla, hea, hn6a, hfa, -, -, -⟩, hA⟩ := hB
  have hW := hS.1
  have hp0 := hW.p
  have hr0 := hW.r
  have ha0 := hW.a
  refine jv_iload_n X dX10_leavesOut_0 3 rfl ?_
  refine jv_aload_n X dX10_leavesOut_1 0 rfl ?_
  refine jv_get X dX10_leavesOut_2 ht (T := TX10) (N := 5) (C := RX10) rfl in_X10 2 (by decide) q897 rfl rfl ?_
  refine jv_iload_n X dX10_leavesOut_5 2 rfl ?_
  refine jv_iald (v := nI (tl T p)) X dX10_leavesOut_6 hle (jn_in (by omega) (by decide)) (by rw [nI_clamp (by omega)]; exact (hgl _ (by omega))) ?_
  refine jv_iand (w := nI (tl T p &&& ux x_)) X dX10_leavesOut_7 (by rw [Int32.and_comm]; exact ux_and64 (hk.2.1 p (by omega)) x_) ?_
  refine jv_istore (lv' := [(4, .int (nI (tl T p &&& ux x_))), (0, .ref t), (1, .int (nI who)), (2, .int (nI p)), (3, .int x_)]) X dX10_leavesOut_8 (by decide) rfl ?_
  refine jv_iload X dX10_leavesOut_10 0 rfl ?_
  refine jn_if_eq 22 X dX10_leavesOut_12 (by decide) (Nat.lt_of_le_of_lt Nat.and_le_left (Nat.lt_trans (hk.2.1 p (by omega)) (by decide))) (fun c12 => ?_) (fun c12 => ?_)
  · skip
    exact jv_vret X dX10_leavesOut_22 hQ (by omega) (by omega) (by rw [show lvT who p x_ T = T by unfold lvT; rw [if_pos c12]]; exact hT_)
  · skip
    refine jv_aload_n X dX10_leavesOut_15 1 rfl ?_
    refine jv_get X dX10_leavesOut_16 ht (T := TX10) (N := 5) (C := RX10) rfl in_X10 4 (by decide) q903 rfl rfl ?_
    refine jv_if_lt 23 X dX10_leavesOut_19 (by decide) (fun c19 => ?_) (fun c19 => ?_)
    · skip
      have hc6_ := (cfI_neg hk.2.2).mp c19
      have htn_ : tn (lvT who p x_ T) = tn T + 1 := by unfold lvT; rw [if_neg c12, if_pos hc6_]
      refine jv_iload_n X dX10_leavesOut_23 2 rfl ?_
      refine jv_bipush (v := nI 100) X dX10_leavesOut_24 rfl ?_
      refine jn_icmp_lt 33 X dX10_leavesOut_26 (by decide) (by have := hS.1.r; omega) (by decide) (fun c26 => ?_) (fun c26 => ?_)
      · skip
        have hws_ : who < S 1 := by omega
        refine jv_aload_n X dX10_leavesOut_33 1 rfl ?_
        refine jv_aload_n X dX10_leavesOut_34 1 rfl ?_
        refine jv_get X dX10_leavesOut_35 ht (T := TX10) (N := 5) (C := RX10) rfl in_X10 0 (by decide) q893 rfl rfl ?_
        refine jv_getN X dX10_leavesOut_38 hb (T := TX1) (N := 3) (C := RX1) rfl in_X1 1 (by decide) q186 rfl rfl ?_
        refine jv_iload_n X dX10_leavesOut_41 2 rfl ?_
        refine jv_callr (jv_runV (As := [.int (nI who)]) (rest := [.ref t]) X dX10_leavesOut_42 (c_J2_get hlr her who (R who) (by omega) (by omega) (by omega) (by rw [hfr_ _ (by omega)]; rfl)) (lw_V q887 q533 q534 q94 q535) hd_J2_get hlr rfl (Nat.le_of_ble_eq_true rfl) (Nat.le_of_ble_eq_true rfl) (Nat.le_of_ble_eq_true rfl) (Nat.le_of_ble_eq_true rfl) rfl (Nat.le_of_ble_eq_true rfl)) (fun rr_ M_ h_ => ?_)
        obtain ⟨hr_, hm_⟩ := h_
        rw [hr_, hm_]
        clear hr_ hm_
        refine jr_cast X dX10_leavesOut_45 q932 (hR who (by omega)) ?_
        refine jv_iload_n X dX10_leavesOut_48 3 rfl ?_
        refine jv_ask (jr_conditions (rest := [.ref t]) X dX10_leavesOut_49 q958 (hR who (by omega)) hW (by omega) p (by omega) (Nat.le_of_ble_eq_true rfl) (Nat.le_of_ble_eq_true rfl) (by omega) (by omega) (Nat.le_of_ble_eq_true rfl)) ?_
        refine jv_askl (jv_runV (As := [.int (nI (cnd S who p))]) (rest := []) X dX10_leavesOut_52 (c_X10_stepsFor hG hB0 hS hL hPP hT_ hk hwT (cnd S who p) (Nat.lt_trans (cnd_lt hW (show who < 30 by omega)) (by decide))) (lw_V q971 q973 qs22 q115 q974) hd_X10_stepsFor ht rfl (Nat.le_of_ble_eq_true rfl) (Nat.le_of_ble_eq_true rfl) (Nat.le_of_ble_eq_true rfl) (Nat.le_of_ble_eq_true rfl) rfl (Nat.le_of_ble_eq_true rfl)) ?_
        refine jv_lstore (lv' := [(5, .long (lN (sfN T (cnd S who p) (tn T)))), (4, .int (nI (tl T p &&& ux x_))), (0, .ref t), (1, .int (nI who)), (2, .int (nI p)), (3, .int x_)]) X dX10_leavesOut_55 (by decide) rfl ?_
        refine jv_aload_n X dX10_leavesOut_57 2 rfl ?_
        refine jv_get X dX10_leavesOut_58 ht (T := TX10) (N := 5) (C := RX10) rfl in_X10 3 (by decide) q901 rfl rfl ?_
        refine jv_new (k1 := 1) (n1 := 4) X dX10_leavesOut_61 (T := TX11) (N := 4) (C := RX11) (fs := [.int 0, .int 0, .int 0, .long 0]) (ci := 9) rfl in_X11 tyX11 tyX11_ok q975 q977 q116 rfl rfl rfl (by omega) (by omega) (fun q_2 hnq_2 hbq_2 => ?_)
        refine jv_dup X dX10_leavesOut_64 rfl ?_
        refine jv_iload_n X dX10_leavesOut_65 3 rfl ?_
        refine jv_iload_n X dX10_leavesOut_66 4 rfl ?_
        refine jv_iload X dX10_leavesOut_67 1 rfl ?_
        refine jv_lload X dX10_leavesOut_69 0 rfl ?_
        refine jv_callv (jv_runI (As := [.int (nI who), .int (nI p), .int (nI (tl T p &&& ux x_)), .long (lN (sfN T (cnd S who p) (tn T)))]) (rest := [.ref q_2, .ref sl]) X dX10_leavesOut_71 (c_X11_init jv_up_s hbq_2 who p (tl T p &&& ux x_) (sfN T (cnd S who p) (tn T))) (lw_meth q980) q116 q978 q979 rfl hd_X11_init (Nat.le_of_ble_eq_true rfl) (Nat.le_of_ble_eq_true rfl) (by omega) (by omega) rfl (Nat.le_of_ble_eq_true rfl)) (fun M_ h_ => ?_)
        rw [h_]
        clear h_
        rw [jv_up_up]
        refine jv_calli (jv_runV (As := [.ref q_2]) (rest := []) X dX10_leavesOut_74 (c_J2_addD hG (jv_up_s) hbq_2 (show jv_cl[9]? = some (RX11, TX11, 4) from rfl) q2515 (Ne.symm (new_ne hnq_2 hsl)) (hdl.new hnq_2) (by omega) (fun i hi v hv => by
            have e9 : V i = v := Option.some.inj ((hV i hi).1.symm.trans hv)
            subst e9
            exact ⟨9, _, (RX11, TX11, 4), (jv_up_n (new_ne hnq_2 (hV i hi).2)).trans (hV i hi).2, rfl, q2515⟩) (fun i hi v hv => by
            have e9 : V i = v := Option.some.inj ((hV i hi).1.symm.trans hv)
            subst e9
            exact ck_ne (hV i hi).2 hsl rfl)) (lw_V q1003 q453 q454 q94 q455) hd_J2_add ((jag.new jag.rf hnq_2).c hsl) rfl (Nat.le_of_ble_eq_true rfl) (Nat.le_of_ble_eq_true rfl) (by omega) (by omega) rfl (Nat.le_of_ble_eq_true rfl)) (fun rr_ M2 h_ => ?_)
        obtain ⟨hr_, N', e', f', hdl', hfo', hfn', hadd', hdm'⟩ := h_
        rw [hr_]
        clear hr_
        have kp_ : ∀ {z : Nat} {c : va_E}, M z = some c → z ≠ sl → (10 ≤ N → z ≠ e) → M2 z = some c := fun {z c} hz h1 h2 => hadd'.keep ((jv_up_n (new_ne hnq_2 hz)).trans hz) h1 h2
        refine jv_pop X dX10_leavesOut_77 rfl ?_
        refine jv_aload_n X dX10_leavesOut_78 2 rfl ?_
        refine jv_get X dX10_leavesOut_79 (kp_ ht (ck_ne ht hsl rfl) (fun h => ck_ne ht (hdl.arr h).1 rfl)) (T := TX10) (N := 5) (C := RX10) rfl in_X10 2 (by decide) q897 rfl rfl ?_
        refine jv_iload_n X dX10_leavesOut_82 4 rfl ?_
        refine jv_dup2 X dX10_leavesOut_83 rfl rfl ?_
        refine jv_iald (v := nI (tl T p)) X dX10_leavesOut_84 (kp_ hle (ck_ne hle hsl rfl) (fun h => ck_ne hle (hdl.arr h).1 rfl)) (jn_in (by omega) (by decide)) (by rw [nI_clamp (by omega)]; exact (hgl _ (by omega))) ?_
        refine jv_iload X dX10_leavesOut_85 1 rfl ?_
        refine jv_iconst (v := (-1)) X dX10_leavesOut_87 rfl ?_
        refine jv_ixor (w := (nI (tl T p &&& ux x_)) ^^^ (-1)) X dX10_leavesOut_88 rfl ?_
        refine jv_iand (w := nI (tl T p &&& ux (unv (tl T p &&& ux x_)))) X dX10_leavesOut_89 (ux_and64 (hk.2.1 p (by omega)) _) ?_
        refine jv_iast (g := upd gl p (nI (tl T p &&& ux (unv (tl T p &&& ux x_))))) X dX10_leavesOut_90 (kp_ hle (ck_ne hle hsl rfl) (fun h => ck_ne hle (hdl.arr h).1 rfl)) hfle (jn_in (by omega) (by decide)) (by rw [nI_clamp (by omega)]) ?_
        refine jv_aload_n X dX10_leavesOut_91 2 rfl ?_
        refine jv_aload_n X dX10_leavesOut_92 2 rfl ?_
        refine jv_get X dX10_leavesOut_93 ((jv_up_n (ck_ne (kp_ ht (ck_ne ht hsl rfl) (fun h => ck_ne ht (hdl.arr h).1 rfl)) (kp_ hle (ck_ne hle hsl rfl) (fun h => ck_ne hle (hdl.arr h).1 rfl)) rfl)).trans (kp_ ht (ck_ne ht hsl rfl) (fun h => ck_ne ht (hdl.arr h).1 rfl))) (T := TX10) (N := 5) (C := RX10) rfl in_X10 2 (by decide) q897 rfl rfl ?_
        refine jv_iload_n X dX10_leavesOut_96 4 rfl ?_
        refine jv_iald (v := nI (tl T p &&& ux (unv (tl T p &&& ux x_)))) X dX10_leavesOut_97 jv_up_s (jn_in (by omega) (by decide)) (by rw [nI_clamp (by omega)]; exact (by simp [upd])) ?_
        have j109_3 : ∀ cw : Int32, cw = (if (tl T p &&& ux (unv (tl T p &&& ux x_))) = 0 then (nI p) else (cfI (tc T))) → jv_J x G 7 Q_ (jv_up M2 le (.inl (G.2.2.1 0, 6, .inl (upd gl p (nI (tl T p &&& ux (unv (tl T p &&& ux x_)))))))) 2 64 109 [(5, .long (lN (sfN T (cnd S who p) (tn T)))), (4, .int (nI (tl T p &&& ux x_))), (0, .ref t), (1, .int (nI who)), (2, .int (nI p)), (3, .int x_)] [.int cw, .ref t] := by
          intro cw e_cw
          refine jv_put (fs' := [.ref b, .ref ma, .ref le, .ref sl, .int cw]) X dX10_leavesOut_109 ((jv_up_n (ck_ne (kp_ ht (ck_ne ht hsl rfl) (fun h => ck_ne ht (hdl.arr h).1 rfl)) (kp_ hle (ck_ne hle hsl rfl) (fun h => ck_ne hle (hdl.arr h).1 rfl)) rfl)).trans (kp_ ht (ck_ne ht hsl rfl) (fun h => ck_ne ht (hdl.arr h).1 rfl))) hft (T := TX10) (N := 5) (C := RX10) rfl in_X10 tyX10 tyX10_ok nmX10 4 (by decide) q903 rfl rfl  rfl rfl rfl (show 4 < 5 from by decide) rfl ?_
          exact jv_vret X dX10_leavesOut_112 hQ (by omega) (by omega) (jtr_lv (by omega) (by obtain ⟨h1, h2, h3, h4, h5, h6, h7⟩ := hT'; exact ⟨h1, h2, h3, h4, h5, h6, h7⟩) hc6_ c12 hnq_2 (lvT_new hS.1 hPP hwT hS.1.p c12 hc6_ hws_ (by omega) (hrl hws_)) hdl' hfo' hfn' hadd' rfl e_cw)
        refine jn_if_ne 105 X dX10_leavesOut_98 (by decide) (Nat.lt_of_le_of_lt Nat.and_le_left (Nat.lt_trans (hk.2.1 p (by omega)) (by decide))) (fun c98 => ?_) (fun c98 => ?_)
        · skip
          refine jv_aload_n X dX10_leavesOut_105 2 rfl ?_
          refine jv_get X dX10_leavesOut_106 ((jv_up_n (ck_ne (kp_ ht (ck_ne ht hsl rfl) (fun h => ck_ne ht (hdl.arr h).1 rfl)) (kp_ hle (ck_ne hle hsl rfl) (fun h => ck_ne hle (hdl.arr h).1 rfl)) rfl)).trans (kp_ ht (ck_ne ht hsl rfl) (fun h => ck_ne ht (hdl.arr h).1 rfl))) (T := TX10) (N := 5) (C := RX10) rfl in_X10 4 (by decide) q903 rfl rfl ?_
          exact j109_3 _ (if_neg c98).symm
        · skip
          refine jv_iload_n X dX10_leavesOut_101 4 rfl ?_
          refine jv_goto 109 X dX10_leavesOut_102 (by decide) ?_
          exact j109_3 _ (if_pos c98).symm
      · skip
        refine jv_lconst (v := lN 0) X dX10_leavesOut_29 rfl ?_
        refine jv_goto 55 X dX10_leavesOut_30 (by decide) ?_
        refine jv_lstore (lv' := [(5, .long (lN 0)), (4, .int (nI (tl T p &&& ux x_))), (0, .ref t), (1, .int (nI who)), (2, .int (nI p)), (3, .int x_)]) X dX10_leavesOut_55 (by decide) rfl ?_
        refine jv_aload_n X dX10_leavesOut_57 2 rfl ?_
        refine jv_get X dX10_leavesOut_58 ht (T := TX10) (N := 5) (C := RX10) rfl in_X10 3 (by decide) q901 rfl rfl ?_
        refine jv_new (k1 := 1) (n1 := 4) X dX10_leavesOut_61 (T := TX11) (N := 4) (C := RX11) (fs := [.int 0, .int 0, .int 0, .long 0]) (ci := 9) rfl in_X11 tyX11 tyX11_ok q975 q977 q116 rfl rfl rfl (by omega) (by omega) (fun q_4 hnq_4 hbq_4 => ?_)
        refine jv_dup X dX10_leavesOut_64 rfl ?_
        refine jv_iload_n X dX10_leavesOut_65 3 rfl ?_
        refine jv_iload_n X dX10_leavesOut_66 4 rfl ?_
        refine jv_iload X dX10_leavesOut_67 1 rfl ?_
        refine jv_lload X dX10_leavesOut_69 0 rfl ?_
        refine jv_callv (jv_runI (As := [.int (nI who), .int (nI p), .int (nI (tl T p &&& ux x_)), .long (lN 0)]) (rest := [.ref q_4, .ref sl]) X dX10_leavesOut_71 (c_X11_init jv_up_s hbq_4 who p (tl T p &&& ux x_) 0) (lw_meth q980) q116 q978 q979 rfl hd_X11_init (Nat.le_of_ble_eq_true rfl) (Nat.le_of_ble_eq_true rfl) (by omega) (by omega) rfl (Nat.le_of_ble_eq_true rfl)) (fun M_ h_ => ?_)
        rw [h_]
        clear h_
        rw [jv_up_up]
        refine jv_calli (jv_runV (As := [.ref q_4]) (rest := []) X dX10_leavesOut_74 (c_J2_addD hG (jv_up_s) hbq_4 (show jv_cl[9]? = some (RX11, TX11, 4) from rfl) q2515 (Ne.symm (new_ne hnq_4 hsl)) (hdl.new hnq_4) (by omega) (fun i hi v hv => by
            have e9 : V i = v := Option.some.inj ((hV i hi).1.symm.trans hv)
            subst e9
            exact ⟨9, _, (RX11, TX11, 4), (jv_up_n (new_ne hnq_4 (hV i hi).2)).trans (hV i hi).2, rfl, q2515⟩) (fun i hi v hv => by
            have e9 : V i = v := Option.some.inj ((hV i hi).1.symm.trans hv)
            subst e9
            exact ck_ne (hV i hi).2 hsl rfl)) (lw_V q1003 q453 q454 q94 q455) hd_J2_add ((jag.new jag.rf hnq_4).c hsl) rfl (Nat.le_of_ble_eq_true rfl) (Nat.le_of_ble_eq_true rfl) (by omega) (by omega) rfl (Nat.le_of_ble_eq_true rfl)) (fun rr_ M2 h_ => ?_)
        obtain ⟨hr_, N', e', f', hdl', hfo', hfn', hadd', hdm'⟩ := h_
        rw [hr_]
        clear hr_
        have kp_ : ∀ {z : Nat} {c : va_E}, M z = some c → z ≠ sl → (10 ≤ N → z ≠ e) → M2 z = some c := fun {z c} hz h1 h2 => hadd'.keep ((jv_up_n (new_ne hnq_4 hz)).trans hz) h1 h2
        refine jv_pop X dX10_leavesOut_77 rfl ?_
        refine jv_aload_n X dX10_leavesOut_78 2 rfl ?_
        refine jv_get X dX10_leavesOut_79 (kp_ ht (ck_ne ht hsl rfl) (fun h => ck_ne ht (hdl.arr h).1 rfl)) (T := TX10) (N := 5) (C := RX10) rfl in_X10 2 (by decide) q897 rfl rfl ?_
        refine jv_iload_n X dX10_leavesOut_82 4 rfl ?_
        refine jv_dup2 X dX10_leavesOut_83 rfl rfl ?_
        refine jv_iald (v := nI (tl T p)) X dX10_leavesOut_84 (kp_ hle (ck_ne hle hsl rfl) (fun h => ck_ne hle (hdl.arr h).1 rfl)) (jn_in (by omega) (by decide)) (by rw [nI_clamp (by omega)]; exact (hgl _ (by omega))) ?_
        refine jv_iload X dX10_leavesOut_85 1 rfl ?_
        refine jv_iconst (v := (-1)) X dX10_leavesOut_87 rfl ?_
        refine jv_ixor (w := (nI (tl T p &&& ux x_)) ^^^ (-1)) X dX10_leavesOut_88 rfl ?_
        refine jv_iand (w := nI (tl T p &&& ux (unv (tl T p &&& ux x_)))) X dX10_leavesOut_89 (ux_and64 (hk.2.1 p (by omega)) _) ?_
        refine jv_iast (g := upd gl p (nI (tl T p &&& ux (unv (tl T p &&& ux x_))))) X dX10_leavesOut_90 (kp_ hle (ck_ne hle hsl rfl) (fun h => ck_ne hle (hdl.arr h).1 rfl)) hfle (jn_in (by omega) (by decide)) (by rw [nI_clamp (by omega)]) ?_
        refine jv_aload_n X dX10_leavesOut_91 2 rfl ?_
        refine jv_aload_n X dX10_leavesOut_92 2 rfl ?_
        refine jv_get X dX10_leavesOut_93 ((jv_up_n (ck_ne (kp_ ht (ck_ne ht hsl rfl) (fun h => ck_ne ht (hdl.arr h).1 rfl)) (kp_ hle (ck_ne hle hsl rfl) (fun h => ck_ne hle (hdl.arr h).1 rfl)) rfl)).trans (kp_ ht (ck_ne ht hsl rfl) (fun h => ck_ne ht (hdl.arr h).1 rfl))) (T := TX10) (N := 5) (C := RX10) rfl in_X10 2 (by decide) q897 rfl rfl ?_
        refine jv_iload_n X dX10_leavesOut_96 4 rfl ?_
        refine jv_iald (v := nI (tl T p &&& ux (unv (tl T p &&& ux x_)))) X dX10_leavesOut_97 jv_up_s (jn_in (by omega) (by decide)) (by rw [nI_clamp (by omega)]; exact (by simp [upd])) ?_
        have j109_5 : ∀ cw : Int32, cw = (if (tl T p &&& ux (unv (tl T p &&& ux x_))) = 0 then (nI p) else (cfI (tc T))) → jv_J x G 7 Q_ (jv_up M2 le (.inl (G.2.2.1 0, 6, .inl (upd gl p (nI (tl T p &&& ux (unv (tl T p &&& ux x_)))))))) 2 64 109 [(5, .long (lN 0)), (4, .int (nI (tl T p &&& ux x_))), (0, .ref t), (1, .int (nI who)), (2, .int (nI p)), (3, .int x_)] [.int cw, .ref t] := by
          intro cw e_cw
          refine jv_put (fs' := [.ref b, .ref ma, .ref le, .ref sl, .int cw]) X dX10_leavesOut_109 ((jv_up_n (ck_ne (kp_ ht (ck_ne ht hsl rfl) (fun h => ck_ne ht (hdl.arr h).1 rfl)) (kp_ hle (ck_ne hle hsl rfl) (fun h => ck_ne hle (hdl.arr h).1 rfl)) rfl)).trans (kp_ ht (ck_ne ht hsl rfl) (fun h => ck_ne ht (hdl.arr h).1 rfl))) hft (T := TX10) (N := 5) (C := RX10) rfl in_X10 tyX10 tyX10_ok nmX10 4 (by decide) q903 rfl rfl  rfl rfl rfl (show 4 < 5 from by decide) rfl ?_
          exact jv_vret X dX10_leavesOut_112 hQ (by omega) (by omega) (jtr_lv (by omega) (by obtain ⟨h1, h2, h3, h4, h5, h6, h7⟩ := hT'; exact ⟨h1, h2, h3, h4, h5, h6, h7⟩) hc6_ c12 hnq_4 (lvT_asm c12 hc6_ (by omega)) hdl' hfo' hfn' hadd' rfl e_cw)
        refine jn_if_ne 105 X dX10_leavesOut_98 (by decide) (Nat.lt_of_le_of_lt Nat.and_le_left (Nat.lt_trans (hk.2.1 p (by omega)) (by decide))) (fun c98 => ?_) (fun c98 => ?_)
        · skip
          refine jv_aload_n X dX10_leavesOut_105 2 rfl ?_
          refine jv_get X dX10_leavesOut_106 ((jv_up_n (ck_ne (kp_ ht (ck_ne ht hsl rfl) (fun h => ck_ne ht (hdl.arr h).1 rfl)) (kp_ hle (ck_ne hle hsl rfl) (fun h => ck_ne hle (hdl.arr h).1 rfl)) rfl)).trans (kp_ ht (ck_ne ht hsl rfl) (fun h => ck_ne ht (hdl.arr h).1 rfl))) (T := TX10) (N := 5) (C := RX10) rfl in_X10 4 (by decide) q903 rfl rfl ?_
          exact j109_5 _ (if_neg c98).symm
        · skip
          refine jv_iload_n X dX10_leavesOut_101 4 rfl ?_
          refine jv_goto 109 X dX10_leavesOut_102 (by decide) ?_
          exact j109_5 _ (if_pos c98).symm
    · skip
      exact jv_vret X dX10_leavesOut_22 hQ (by omega) (by omega) (by rw [show lvT who p x_ T = T by unfold lvT; rw [if_neg c12, if_neg (fun z => c19 ((cfI_neg hk.2.2).mpr z))]]; exact hT_)
