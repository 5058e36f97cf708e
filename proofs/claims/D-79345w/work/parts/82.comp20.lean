/-! searches: made -/
set_option maxRecDepth 100000
/-- a search while it is made -/
def jsc (ci : Nat) (xs : List Value) (G : jv_G) (B M : jv_M) (b t : Nat) (m_ : Int32) (n1 ma oa sa : Nat) (gm g0 gs : Nat → Int32) : Prop :=
  M t = some (.inr (ci, .ref b :: .ref ma :: .ref oa :: .int m_ :: .ref sa :: xs)) ∧ M ma = some (.inl (G.2.2.1 0, n1, .inl gm)) ∧ M oa = some (.inl (G.2.2.1 0, 36, .inl g0)) ∧ M sa = some (.inl (G.2.2.1 0, 6, .inl gs)) ∧ jag B M
theorem hd_X14_orders : jv_dd yX14_orders 2 := by unfold jv_dd; decide +kernel
set_option maxHeartbeats 4000000 in
theorem c_X14_orders_X15 {l : Launch} {G : jv_G} {M : jv_M} {σ : jk_A} (hG : jk_G G σ) {B : jv_M} {τ : Nat → Nat} {tg_ b a p : Nat} {S : Nat → Nat} (hpk : jpack G B τ tg_ a S p) (hW : wfB S) (hp : p < S 0) (hV : wfV S) {t ma oa sa : Nat} {m_ : Int32} {gm g0 gs : Nat → Int32} (hsc : jsc 12 [.int 0] G B M b t m_ (S 1) ma oa sa gm g0 gs) (hfo : G.1 ≤ oa) (hno : B oa = none) (hmo : ma ≠ oa) (hos : oa ≠ sa) (hms : ma ≠ sa)   : jv_Ct G l yX14_orders cX14_orders 5 (none) 4 5 20 95 [.ref t, .ref a, .int (nI (6 * p))] M (jv_qv G (fun M' => ∃ g', jsc 12 [.int 0] G B M' b t m_ (S 1) ma oa sa gm g' gs ∧ (∀ k, k ≤ v_of S p 0 → g' (6 * p + k) = nI (rk S p k)) ∧ (∀ j, (j < 6 * p ∨ 6 * p + v_of S p 0 < j) → g' j = g0 j))) := by
  refine jv_Ct.of (lv := [(0, .ref t), (1, .ref a), (2, .int (nI (6 * p)))]) (by decide) (Nat.le_of_ble_eq_true rfl) rfl ?_
  intro x Q_ hl_ hQ X
  subst hl_
  obtain ⟨ht, hma, hoa, hsa, hag⟩ := id hsc
  obtain ⟨lv, V, hb, hfb, ⟨mc_, e, f, hl, he, hn5, hf, -, -, -⟩, hv⟩ := id hpk
  have hp0 := hW.p
  have hnv := hW.nv (show p < 6 by omega)
  refine jv_aload_n X dX14_orders_0 1 rfl ?_
  refine jv_getN X dX14_orders_1 (hag.c hb) (T := TX3) (N := 2) (C := RX3) rfl in_X3 0 (by decide) q353 rfl rfl ?_
  refine jv_ask (jv_runV (As := []) (rest := []) X dX14_orders_4 (c_J2_size (hag.c hl)) (lw_V q1189 q284 q285 q94 q286) hd_J2_size (hag.c hl) rfl (Nat.le_of_ble_eq_true rfl) (Nat.le_of_ble_eq_true rfl) (Nat.le_of_ble_eq_true rfl) (Nat.le_of_ble_eq_true rfl) rfl (Nat.le_of_ble_eq_true rfl)) ?_
  refine jv_istore_n (lv' := [(3, .int (nI (v_of S p 0))), (0, .ref t), (1, .ref a), (2, .int (nI (6 * p)))]) X dX14_orders_7 rfl (by decide) rfl ?_
  refine jv_iconst (v := nI 0) X dX14_orders_8 rfl ?_
  refine jv_istore (lv' := [(4, .int (nI 0)), (3, .int (nI (v_of S p 0))), (0, .ref t), (1, .ref a), (2, .int (nI (6 * p)))]) X dX14_orders_9 (by decide) rfl ?_
  have lp11_1 : ∀ (d_11 : Nat) (v : Nat) (g_ : Nat → Int32) (Mi : jv_M), v ≤ v_of S p 0 → (∀ w, w < v → g_ (6 * p + v_of S p 0 - 1 - bef S p w) = nI w) → (∀ j, (j < 6 * p ∨ 6 * p + v_of S p 0 ≤ j) → g_ j = g0 j) → Mi t = some (.inr (12, [.ref b, .ref ma, .ref oa, .int m_, .ref sa, .int 0])) → Mi ma = some (.inl (G.2.2.1 0, S 1, .inl gm)) → Mi oa = some (.inl (G.2.2.1 0, 36, .inl g_)) → Mi sa = some (.inl (G.2.2.1 0, 6, .inl gs)) → jag B Mi → v_of S p 0 - v < d_11 → jv_J x G 5 Q_ Mi (0 + 1 * v) (0 + 4 * v) 11 [(0, .ref t), (1, .ref a), (2, .int (nI (6 * p))), (3, .int (nI (v_of S p 0))), (4, .int (nI v))] [] := by
    intro d_11
    induction d_11 with
    | zero => intro v g_ Mi hvn hg hsm hct hcm hco hcs hag_Mi hm_11; exact absurd hm_11 (Nat.not_lt_zero _)
    | succ d_11 ih_11 =>
      intro v g_ Mi hvn hg hsm hct hcm hco hcs hag_Mi hm_11
      refine jv_iload X dX14_orders_11 4 rfl ?_
      refine jv_iload_n X dX14_orders_13 3 rfl ?_
      refine jn_icmp_ge 42 X dX14_orders_14 (by decide) (by omega) (by omega) (fun c14 => ?_) (fun c14 => ?_)
      · skip
        refine jv_aload_n X dX14_orders_42 0 rfl ?_
        refine jv_get X dX14_orders_43 hct (T := TX15) (N := 6) (C := RX15) rfl in_X15 2 (by decide) q1200 rfl rfl ?_
        refine jv_iload_n X dX14_orders_46 2 rfl ?_
        refine jv_iload_n X dX14_orders_47 3 rfl ?_
        refine jv_iadd (w := nI ((6 * p) + (v_of S p 0))) X dX14_orders_48 (nI_add _ _) ?_
        refine jv_iconst (v := nI 5) X dX14_orders_49 rfl ?_
        refine jv_iast (g := upd g_ ((6 * p) + (v_of S p 0)) (nI 5)) X dX14_orders_50 hco hfo (jn_in (by omega) (by decide)) (by rw [nI_clamp (by omega)]) ?_
        exact jv_vret X dX14_orders_51 hQ (by omega) (by omega) ⟨_, ⟨((jv_up_n (ck_ne hct hco rfl)).trans hct), ((jv_up_n hmo).trans hcm), jv_up_s, ((jv_up_n (Ne.symm hos)).trans hcs), (jag.put hag_Mi hno)⟩, ord_ok hW hV hp (fun w hw => by
            simp only [upd]
            rw [if_neg (by have := bef_in hw; omega)]
            exact hg w (by omega)) (by simp [upd]), (fun j hj => by
            simp only [upd]
            rw [if_neg (by omega)]
            exact hsm j (by omega))⟩
      · skip
        have hbi_ := bef_in (S := S) (p := p) (show v < v_of S p 0 by omega)
        refine jv_aload_n X dX14_orders_17 0 rfl ?_
        refine jv_get X dX14_orders_18 hct (T := TX15) (N := 6) (C := RX15) rfl in_X15 2 (by decide) q1200 rfl rfl ?_
        refine jv_iload_n X dX14_orders_21 2 rfl ?_
        refine jv_iload_n X dX14_orders_22 3 rfl ?_
        refine jv_iadd (w := nI ((6 * p) + (v_of S p 0))) X dX14_orders_23 (nI_add _ _) ?_
        refine jv_iconst (v := nI 1) X dX14_orders_24 rfl ?_
        refine jv_isub (w := nI (((6 * p) + (v_of S p 0)) - 1)) X dX14_orders_25 (pk_sub (by omega)) ?_
        refine jv_aload_n X dX14_orders_26 1 rfl ?_
        refine jv_iload X dX14_orders_27 4 rfl ?_
        refine jv_ask (jv_runV (As := [.int (nI v)]) (rest := [.int (nI (((6 * p) + (v_of S p 0)) - 1)), .ref oa]) X dX14_orders_29 (c_X3_placeOf hG (hpk.sub hag_Mi) hW (by omega) v (by omega)) (lw_V q1196 q609 q610 q102 q611) hd_X3_placeOf (hag_Mi.c hb) rfl (Nat.le_of_ble_eq_true rfl) (Nat.le_of_ble_eq_true rfl) (by omega) (by omega) rfl (Nat.le_of_ble_eq_true rfl)) ?_
        refine jv_isub (w := nI ((((6 * p) + (v_of S p 0)) - 1) - (bef S p v))) X dX14_orders_32 (pk_sub (by omega)) ?_
        refine jv_iload X dX14_orders_33 4 rfl ?_
        refine jv_iast (g := upd g_ ((((6 * p) + (v_of S p 0)) - 1) - (bef S p v)) (nI v)) X dX14_orders_35 hco hfo (jn_in (by omega) (by decide)) (by rw [nI_clamp (by omega)]) ?_
        refine jv_iinc (v := nI (v + 1)) (lv' := [(4, .int (nI (v + 1))), (0, .ref t), (1, .ref a), (2, .int (nI (6 * p))), (3, .int (nI (v_of S p 0)))]) X dX14_orders_36 4 rfl (nI_1 _) (by decide) rfl ?_
        refine jv_goto 11 X dX14_orders_39 (by decide) ?_
        refine jv_lv (lv' := [(0, .ref t), (1, .ref a), (2, .int (nI (6 * p))), (3, .int (nI (v_of S p 0))), (4, .int (nI (v + 1)))]) [1, 2, 3, 4, 0] rfl ?_
        exact jv_widen (by omega) (by omega) (ih_11 (v + 1) (upd g_ (6 * p + v_of S p 0 - 1 - bef S p v) (nI v)) (jv_up Mi oa (.inl (G.2.2.1 0, 36, .inl (upd g_ ((((6 * p) + (v_of S p 0)) - 1) - (bef S p v)) (nI v))))) (by omega) (fun w hw => by
            simp only [upd]
            by_cases e : w = v
            · rw [e, if_pos rfl]
            · rw [if_neg (fun z => e (bef_inj hW hV hp (show w < v_of S p 0 by omega) (show v < v_of S p 0 by omega) (by have := bef_in (S := S) (p := p) (show w < v_of S p 0 by omega); omega)))]
              exact hg w (by omega)) (fun j hj => by
            simp only [upd]
            rw [if_neg (by omega)]
            exact hsm j hj) ((jv_up_n (ck_ne hct hco rfl)).trans hct) ((jv_up_n hmo).trans hcm) jv_up_s ((jv_up_n (Ne.symm hos)).trans hcs) (jag.put hag_Mi hno) (by omega))
  refine jv_lv (lv' := [(0, .ref t), (1, .ref a), (2, .int (nI (6 * p))), (3, .int (nI (v_of S p 0))), (4, .int (nI 0))]) [2, 3, 4, 1, 0] rfl ?_
  exact jv_widen (Nat.le_refl _) (Nat.le_refl _) (lp11_1 (v_of S p 0 + 1) 0 g0 M (Nat.zero_le _) (fun w hw => absurd hw (Nat.not_lt_zero _)) (fun j _ => rfl) ht hma hoa hsa hag (by omega))
theorem hd_X14_init : jv_dd yX14_init 2 := by unfold jv_dd; decide +kernel
set_option maxHeartbeats 4000000 in
theorem c_X14_init_X15 {l : Launch} {G : jv_G}  {σ : jk_A} (hG : jk_G G σ) {B : jv_M} {τ : Nat → Nat} {b t : Nat} {S : Nat → Nat} (hB : jbd G B τ b S) (hS : wfS S) (hL : wfL S) (hV : wfV S) (hnt : B t = none) (hft : G.1 ≤ t) (m_ : Int32)  : jv_Ct G l yX14_init cX14_init 4 (none) 10 333 1092 303 [.ref t, .ref b, .int m_] (jv_up B t (.inr (12, [.null, .null, .null, .int 0, .null, .int 0]))) (jv_qv G (fun M' => ∃ ma oa sa, jse 12 [.int 0] G B M' S b t m_ ma oa sa (fun _ => 0))) := by
  refine jv_Ct.of (lv := [(0, .ref t), (1, .ref b), (2, .int m_)]) (by decide) (Nat.le_of_ble_eq_true rfl) rfl ?_
  intro x Q_ hl_ hQ X
  subst hl_
  have hB0 := hB
  obtain ⟨lp, lr, la, P, R, A, hb, hfb, ⟨⟨mp_, ep, fp, hlp, hep, hn6, hfp, -, -, -⟩, hP⟩, ⟨⟨mr_, er, fr_, hlr, her, hn30, hfr_, -, -, -⟩, hR⟩, ⟨ma_, ea, fa, hla, hea, hn6a, hfa, -, -, -⟩, hA⟩ := id hB0
  have hW := hS.1
  have hp0 := hW.p
  have hr0 := hW.r
  have ha0 := hW.a
  refine jv_aload_n X dX14_init_0 0 rfl ?_
  refine jv_obj0 X dX14_init_1 q1187 (Nat.le_of_ble_eq_true rfl) (Nat.le_of_ble_eq_true rfl) ?_
  refine jv_aload_n X dX14_init_4 0 rfl ?_
  refine jv_bipush (v := nI 36) X dX14_init_5 rfl ?_
  refine jv_newi (N := 36) (k1 := 1) (n1 := 36) X dX14_init_7 q563 (by decide) rfl (by decide) rfl rfl (Nat.le_of_ble_eq_true rfl) (Nat.le_of_ble_eq_true rfl) (fun q_1 hnq_1 hbq_1 => ?_)
  refine jv_putF (fs' := [.null, .null, .ref q_1, .int 0, .null, .int 0]) X dX14_init_9 ((jv_up_n (new_ne hnq_1 jv_up_s)).trans jv_up_s) hft (T := TX15) (N := 6) (C := RX15) rfl in_X15 tyX15 tyX15_ok nmX15 2 (by decide) q1200 rfl rfl rfl rfl rfl rfl rfl (show 2 < 6 from by decide) rfl ?_
  refine jv_aload_n X dX14_init_12 0 rfl ?_
  refine jv_bipush (v := nI 6) X dX14_init_13 rfl ?_
  refine jv_newi (N := 6) (k1 := 2) (n1 := 42) X dX14_init_15 q563 (by decide) rfl (by decide) rfl rfl (Nat.le_of_ble_eq_true rfl) (Nat.le_of_ble_eq_true rfl) (fun q_2 hnq_2 hbq_2 => ?_)
  refine jv_putF (fs' := [.null, .null, .ref q_1, .int 0, .ref q_2, .int 0]) X dX14_init_17 ((jv_up_n (new_ne hnq_2 jv_up_s)).trans jv_up_s) hft (T := TX15) (N := 6) (C := RX15) rfl in_X15 tyX15 tyX15_ok nmX15 4 (by decide) q1202 rfl rfl rfl rfl rfl rfl rfl (show 4 < 6 from by decide) rfl ?_
  refine jv_aload_n X dX14_init_20 0 rfl ?_
  refine jv_aload_n X dX14_init_21 1 rfl ?_
  refine jv_putF (fs' := [.ref b, .null, .ref q_1, .int 0, .ref q_2, .int 0]) X dX14_init_22 jv_up_s hft (T := TX15) (N := 6) (C := RX15) rfl in_X15 tyX15 tyX15_ok nmX15 0 (by decide) q1198 rfl rfl rfl rfl rfl rfl rfl (show 0 < 6 from by decide) rfl ?_
  rw [jv_up_up]
  refine jv_aload_n X dX14_init_25 0 rfl ?_
  refine jv_iload_n X dX14_init_26 2 rfl ?_
  refine jv_putF (fs' := [.ref b, .null, .ref q_1, .int m_, .ref q_2, .int 0]) X dX14_init_27 jv_up_s hft (T := TX15) (N := 6) (C := RX15) rfl in_X15 tyX15 tyX15_ok nmX15 3 (by decide) q1201 rfl rfl rfl rfl rfl rfl rfl (show 3 < 6 from by decide) rfl ?_
  rw [jv_up_up]
  refine jv_aload_n X dX14_init_30 0 rfl ?_
  refine jv_aload_n X dX14_init_31 1 rfl ?_
  refine jv_callr (jv_runV (As := []) (rest := [.ref t]) X dX14_init_32 (c_X1_masks hG (hB0.sub (jag.put (jag.new (jag.put (jag.new (jag.new jag.rf hnt) hnq_1) hnt) hnq_2) hnt) hp0) hS hL) (lw_V q1188 q863 q864 q91 q865) hd_X1_masks ((jag.put (jag.new (jag.put (jag.new (jag.new jag.rf hnt) hnq_1) hnt) hnq_2) hnt).c hb) rfl (Nat.le_of_ble_eq_true rfl) (Nat.le_of_ble_eq_true rfl) (by omega) (by omega) rfl (Nat.le_of_ble_eq_true rfl)) (fun q_3 M_ h_ => ?_)
  obtain ⟨hnq_3, hbq_3, gq_3, hm_, hgq_3⟩ := h_
  rw [hm_]
  clear hm_
  refine jv_putF (fs' := [.ref b, .ref q_3, .ref q_1, .int m_, .ref q_2, .int 0]) X dX14_init_35 ((jv_up_n (new_ne hnq_3 jv_up_s)).trans jv_up_s) hft (T := TX15) (N := 6) (C := RX15) rfl in_X15 tyX15 tyX15_ok nmX15 1 (by decide) q1199 rfl rfl rfl rfl rfl rfl rfl (show 1 < 6 from by decide) rfl ?_
  refine jv_iconst (v := nI 0) X dX14_init_38 rfl ?_
  refine jv_istore_n (lv' := [(3, .int (nI 0)), (0, .ref t), (1, .ref b), (2, .int m_)]) X dX14_init_39 rfl (by decide) rfl ?_
  have lp40_4 : ∀ (d_40 : Nat) (i : Nat) (go_ : Nat → Int32) (Mi : jv_M), i ≤ S 0 → (∀ p, p < i → ∀ k, k ≤ v_of S p 0 → go_ (6 * p + k) = nI (rk S p k)) → Mi t = some (.inr (12, [.ref b, .ref q_3, .ref q_1, .int m_, .ref q_2, .int 0])) → Mi q_3 = some (.inl (G.2.2.1 0, S 1, .inl gq_3)) → Mi q_1 = some (.inl (G.2.2.1 0, 36, .inl go_)) → Mi q_2 = some (.inl (G.2.2.1 0, 6, .inl (fun _ => 0))) → jag B Mi → S 0 - i < d_40 → jv_J x G 4 Q_ Mi (303 + 5 * i) (972 + 20 * i) 40 [(0, .ref t), (1, .ref b), (2, .int m_), (3, .int (nI i))] [] := by
    intro d_40
    induction d_40 with
    | zero => intro i go_ Mi hi hgo_ hct hcm hco hcs hag_Mi hm_40; exact absurd hm_40 (Nat.not_lt_zero _)
    | succ d_40 ih_40 =>
      intro i go_ Mi hi hgo_ hct hcm hco hcs hag_Mi hm_40
      refine jv_iload_n X dX14_init_40 3 rfl ?_
      refine jv_aload_n X dX14_init_41 1 rfl ?_
      refine jv_getN X dX14_init_42 (hag_Mi.c hb) (T := TX1) (N := 3) (C := RX1) rfl in_X1 0 (by decide) q181 rfl rfl ?_
      refine jv_ask (jv_runV (As := []) (rest := [.int (nI i)]) X dX14_init_45 (c_J2_size (hag_Mi.c hlp)) (lw_V q1189 q284 q285 q94 q286) hd_J2_size (hag_Mi.c hlp) rfl (Nat.le_of_ble_eq_true rfl) (Nat.le_of_ble_eq_true rfl) (by omega) (by omega) rfl (Nat.le_of_ble_eq_true rfl)) ?_
      refine jn_icmp_ge 76 X dX14_init_48 (by decide) (by omega) (by omega) (fun c48 => ?_) (fun c48 => ?_)
      · skip
        exact jv_vret X dX14_init_76 hQ (by omega) (by omega) ⟨q_3, q_1, q_2, ⟨hct, hft, hnt⟩, ⟨_, hcm, fun k hk => hgq_3 k hk⟩, ⟨_, hco, fun p k hp hk => hgo_ p (by omega) k hk⟩, ⟨_, hcs, fun _ _ => rfl, hbq_2, (jag.none (jag.put (jag.new (jag.new jag.rf hnt) hnq_1) hnt) hnq_2)⟩, fun _ _ => (show 0 < 6 by decide), (Ne.symm (new_ne hnq_3 ((jv_up_n (Ne.symm (new_ne hnq_2 jv_up_s))).trans jv_up_s))), (new_ne hnq_2 ((jv_up_n (Ne.symm (new_ne hnq_1 jv_up_s))).trans jv_up_s)), hag_Mi⟩
      · skip
        refine jv_aload_n X dX14_init_51 0 rfl ?_
        refine jv_aload_n X dX14_init_52 1 rfl ?_
        refine jv_getN X dX14_init_53 (hag_Mi.c hb) (T := TX1) (N := 3) (C := RX1) rfl in_X1 0 (by decide) q181 rfl rfl ?_
        refine jv_iload_n X dX14_init_56 3 rfl ?_
        refine jv_callr (jv_runV (As := [.int (nI i)]) (rest := [.ref t]) X dX14_init_57 (c_J2_get (hag_Mi.c hlp) (hag_Mi.c hep) i (P i) (by omega) (by omega) (by omega) (by rw [hfp _ (by omega)]; rfl)) (lw_V q1190 q533 q534 q94 q535) hd_J2_get (hag_Mi.c hlp) rfl (Nat.le_of_ble_eq_true rfl) (Nat.le_of_ble_eq_true rfl) (by omega) (by omega) rfl (Nat.le_of_ble_eq_true rfl)) (fun rr_ M_ h_ => ?_)
        obtain ⟨hr_, hm_⟩ := h_
        rw [hr_, hm_]
        clear hr_ hm_
        obtain ⟨lv_6, V_6, hpk_6, -, ⟨mv_6, ev_6, fv_6, hlv_6, hev_6, hnv_6, hfv_6, -, -, -⟩, hvv_6⟩ := hP i (by omega)
        have hnv5_6 := hW.nv (show i < 6 by omega)
        refine jv_castS X dX14_init_60 (hag_Mi.c hpk_6) (r := (RX3, TX3, 2)) rfl q1191 ?_
        refine jv_bipush (v := nI 6) X dX14_init_63 rfl ?_
        refine jv_iload_n X dX14_init_65 3 rfl ?_
        refine jv_imul (w := nI (6 * i)) X dX14_init_66 (pk_mul _ _) ?_
        refine jv_callv (jv_runU (As := [.ref (P i), .int (nI (6 * i))]) (rest := []) X dX14_init_67 (c_X14_orders_X15 hG (hP i (by omega)) hW (show i < S 0 by omega) hV ⟨hct, hcm, hco, hcs, hag_Mi⟩ hbq_1 (jag.none (jag.new jag.rf hnt) hnq_1) (Ne.symm (new_ne hnq_3 ((jv_up_n (Ne.symm (new_ne hnq_1 jv_up_s))).trans ((jv_up_n (new_ne hnq_2 ((jv_up_n (Ne.symm (new_ne hnq_1 jv_up_s))).trans jv_up_s))).trans ((jv_up_n (Ne.symm (new_ne hnq_1 jv_up_s))).trans jv_up_s))))) (new_ne hnq_2 ((jv_up_n (Ne.symm (new_ne hnq_1 jv_up_s))).trans jv_up_s)) (Ne.symm (new_ne hnq_3 ((jv_up_n (Ne.symm (new_ne hnq_2 jv_up_s))).trans jv_up_s)))) (jv_cuP X q1192 q2472 q1193 q1194 q122 q1195 q1176 ⟨by decide, by decide⟩ hd_X14_orders (Nat.le_of_ble_eq_true rfl) (Nat.le_of_ble_eq_true rfl)) hct (show jv_cl[12]? = some (RX15, TX15, 6) from rfl) (by omega) (by omega) rfl (Nat.le_of_ble_eq_true rfl)) (fun M7 h_ => ?_)
        obtain ⟨go7, ⟨ht7, hm7, ho7, hs7, hag7⟩, hk7, hj7⟩ := h_
        refine jv_iinc (v := nI (i + 1)) (lv' := [(3, .int (nI (i + 1))), (0, .ref t), (1, .ref b), (2, .int m_)]) X dX14_init_70 3 rfl (nI_1 _) (by decide) rfl ?_
        refine jv_goto 40 X dX14_init_73 (by decide) ?_
        refine jv_lv (lv' := [(0, .ref t), (1, .ref b), (2, .int m_), (3, .int (nI (i + 1)))]) [1, 2, 3, 0] rfl ?_
        exact jv_widen (by omega) (by omega) (ih_40 (i + 1) go7 M7 (by omega) (fun p hp k hk => by
            by_cases e : p = i
            · subst e; exact hk7 k hk
            · rw [hj7 (6 * p + k) (by have := hW.nv (show p < 6 by omega); omega)]; exact hgo_ p (by omega) k hk) ht7 hm7 ho7 hs7 hag7 (by omega))
  refine jv_lv (lv' := [(0, .ref t), (1, .ref b), (2, .int m_), (3, .int (nI 0))]) [1, 2, 3, 0] rfl ?_
  exact jv_widen (Nat.le_refl _) (Nat.le_refl _) (lp40_4 (S 0 + 1) 0 (fun _ => 0) (jv_up (jv_up (jv_up (jv_up (jv_up (jv_up (jv_up B t (.inr (12, [.null, .null, .null, .int 0, .null, .int 0]))) q_1 (.inl (G.2.2.1 0, 36, .inl (fun _ => 0)))) t (.inr (12, [.null, .null, .ref q_1, .int 0, .null, .int 0]))) q_2 (.inl (G.2.2.1 0, 6, .inl (fun _ => 0)))) t (.inr (12, [.ref b, .null, .ref q_1, .int m_, .ref q_2, .int 0]))) q_3 (.inl (G.2.2.1 0, S 1, .inl gq_3))) t (.inr (12, [.ref b, .ref q_3, .ref q_1, .int m_, .ref q_2, .int 0]))) (Nat.zero_le _) (fun p hp => absurd hp (Nat.not_lt_zero _)) jv_up_s ((jv_up_n (Ne.symm (new_ne hnq_3 jv_up_s))).trans jv_up_s) ((jv_up_n (Ne.symm (new_ne hnq_1 jv_up_s))).trans ((jv_up_n (new_ne hnq_3 ((jv_up_n (Ne.symm (new_ne hnq_1 jv_up_s))).trans ((jv_up_n (new_ne hnq_2 ((jv_up_n (Ne.symm (new_ne hnq_1 jv_up_s))).trans jv_up_s))).trans ((jv_up_n (Ne.symm (new_ne hnq_1 jv_up_s))).trans jv_up_s))))).trans ((jv_up_n (Ne.symm (new_ne hnq_1 jv_up_s))).trans ((jv_up_n (new_ne hnq_2 ((jv_up_n (Ne.symm (new_ne hnq_1 jv_up_s))).trans jv_up_s))).trans ((jv_up_n (Ne.symm (new_ne hnq_1 jv_up_s))).trans jv_up_s))))) ((jv_up_n (Ne.symm (new_ne hnq_2 jv_up_s))).trans ((jv_up_n (new_ne hnq_3 ((jv_up_n (Ne.symm (new_ne hnq_2 jv_up_s))).trans jv_up_s))).trans ((jv_up_n (Ne.symm (new_ne hnq_2 jv_up_s))).trans jv_up_s))) (jag.put (jag.new (jag.put (jag.new (jag.put (jag.new (jag.new jag.rf hnt) hnq_1) hnt) hnq_2) hnt) hnq_3) hnt) (by omega))
set_option maxHeartbeats 4000000 in
theorem c_X14_orders_X16 {l : Launch} {G : jv_G} {M : jv_M} {σ : jk_A} (hG : jk_G G σ) {B : jv_M} {τ : Nat → Nat} {tg_ b a p : Nat} {S : Nat → Nat} (hpk : jpack G B τ tg_ a S p) (hW : wfB S) (hp : p < S 0) (hV : wfV S) {t ma oa sa : Nat} {m_ : Int32} {gm g0 gs : Nat → Int32} (hsc : jsc 13 [] G B M b t m_ (S 1) ma oa sa gm g0 gs) (hfo : G.1 ≤ oa) (hno : B oa = none) (hmo : ma ≠ oa) (hos : oa ≠ sa) (hms : ma ≠ sa)   : jv_Ct G l yX14_orders cX14_orders 5 (none) 4 5 20 95 [.ref t, .ref a, .int (nI (6 * p))] M (jv_qv G (fun M' => ∃ g', jsc 13 [] G B M' b t m_ (S 1) ma oa sa gm g' gs ∧ (∀ k, k ≤ v_of S p 0 → g' (6 * p + k) = nI (rk S p k)) ∧ (∀ j, (j < 6 * p ∨ 6 * p + v_of S p 0 < j) → g' j = g0 j))) := by
  refine jv_Ct.of (lv := [(0, .ref t), (1, .ref a), (2, .int (nI (6 * p)))]) (by decide) (Nat.le_of_ble_eq_true rfl) rfl ?_
  intro x Q_ hl_ hQ X
  subst hl_
  obtain ⟨ht, hma, hoa, hsa, hag⟩ := id hsc
  obtain ⟨lv, V, hb, hfb, ⟨mc_, e, f, hl, he, hn5, hf, -, -, -⟩, hv⟩ := id hpk
  have hp0 := hW.p
  have hnv := hW.nv (show p < 6 by omega)
  refine jv_aload_n X dX14_orders_0 1 rfl ?_
  refine jv_getN X dX14_orders_1 (hag.c hb) (T := TX3) (N := 2) (C := RX3) rfl in_X3 0 (by decide) q353 rfl rfl ?_
  refine jv_ask (jv_runV (As := []) (rest := []) X dX14_orders_4 (c_J2_size (hag.c hl)) (lw_V q1189 q284 q285 q94 q286) hd_J2_size (hag.c hl) rfl (Nat.le_of_ble_eq_true rfl) (Nat.le_of_ble_eq_true rfl) (Nat.le_of_ble_eq_true rfl) (Nat.le_of_ble_eq_true rfl) rfl (Nat.le_of_ble_eq_true rfl)) ?_
  refine jv_istore_n (lv' := [(3, .int (nI (v_of S p 0))), (0, .ref t), (1, .ref a), (2, .int (nI (6 * p)))]) X dX14_orders_7 rfl (by decide) rfl ?_
  refine jv_iconst (v := nI 0) X dX14_orders_8 rfl ?_
  refine jv_istore (lv' := [(4, .int (nI 0)), (3, .int (nI (v_of S p 0))), (0, .ref t), (1, .ref a), (2, .int (nI (6 * p)))]) X dX14_orders_9 (by decide) rfl ?_
  have lp11_1 : ∀ (d_11 : Nat) (v : Nat) (g_ : Nat → Int32) (Mi : jv_M), v ≤ v_of S p 0 → (∀ w, w < v → g_ (6 * p + v_of S p 0 - 1 - bef S p w) = nI w) → (∀ j, (j < 6 * p ∨ 6 * p + v_of S p 0 ≤ j) → g_ j = g0 j) → Mi t = some (.inr (13, [.ref b, .ref ma, .ref oa, .int m_, .ref sa])) → Mi ma = some (.inl (G.2.2.1 0, S 1, .inl gm)) → Mi oa = some (.inl (G.2.2.1 0, 36, .inl g_)) → Mi sa = some (.inl (G.2.2.1 0, 6, .inl gs)) → jag B Mi → v_of S p 0 - v < d_11 → jv_J x G 5 Q_ Mi (0 + 1 * v) (0 + 4 * v) 11 [(0, .ref t), (1, .ref a), (2, .int (nI (6 * p))), (3, .int (nI (v_of S p 0))), (4, .int (nI v))] [] := by
    intro d_11
    induction d_11 with
    | zero => intro v g_ Mi hvn hg hsm hct hcm hco hcs hag_Mi hm_11; exact absurd hm_11 (Nat.not_lt_zero _)
    | succ d_11 ih_11 =>
      intro v g_ Mi hvn hg hsm hct hcm hco hcs hag_Mi hm_11
      refine jv_iload X dX14_orders_11 4 rfl ?_
      refine jv_iload_n X dX14_orders_13 3 rfl ?_
      refine jn_icmp_ge 42 X dX14_orders_14 (by decide) (by omega) (by omega) (fun c14 => ?_) (fun c14 => ?_)
      · skip
        refine jv_aload_n X dX14_orders_42 0 rfl ?_
        refine jv_get X dX14_orders_43 hct (T := TX16) (N := 5) (C := RX16) rfl in_X16 2 (by decide) q1200 rfl rfl ?_
        refine jv_iload_n X dX14_orders_46 2 rfl ?_
        refine jv_iload_n X dX14_orders_47 3 rfl ?_
        refine jv_iadd (w := nI ((6 * p) + (v_of S p 0))) X dX14_orders_48 (nI_add _ _) ?_
        refine jv_iconst (v := nI 5) X dX14_orders_49 rfl ?_
        refine jv_iast (g := upd g_ ((6 * p) + (v_of S p 0)) (nI 5)) X dX14_orders_50 hco hfo (jn_in (by omega) (by decide)) (by rw [nI_clamp (by omega)]) ?_
        exact jv_vret X dX14_orders_51 hQ (by omega) (by omega) ⟨_, ⟨((jv_up_n (ck_ne hct hco rfl)).trans hct), ((jv_up_n hmo).trans hcm), jv_up_s, ((jv_up_n (Ne.symm hos)).trans hcs), (jag.put hag_Mi hno)⟩, ord_ok hW hV hp (fun w hw => by
            simp only [upd]
            rw [if_neg (by have := bef_in hw; omega)]
            exact hg w (by omega)) (by simp [upd]), (fun j hj => by
            simp only [upd]
            rw [if_neg (by omega)]
            exact hsm j (by omega))⟩
      · skip
        have hbi_ := bef_in (S := S) (p := p) (show v < v_of S p 0 by omega)
        refine jv_aload_n X dX14_orders_17 0 rfl ?_
        refine jv_get X dX14_orders_18 hct (T := TX16) (N := 5) (C := RX16) rfl in_X16 2 (by decide) q1200 rfl rfl ?_
        refine jv_iload_n X dX14_orders_21 2 rfl ?_
        refine jv_iload_n X dX14_orders_22 3 rfl ?_
        refine jv_iadd (w := nI ((6 * p) + (v_of S p 0))) X dX14_orders_23 (nI_add _ _) ?_
        refine jv_iconst (v := nI 1) X dX14_orders_24 rfl ?_
        refine jv_isub (w := nI (((6 * p) + (v_of S p 0)) - 1)) X dX14_orders_25 (pk_sub (by omega)) ?_
        refine jv_aload_n X dX14_orders_26 1 rfl ?_
        refine jv_iload X dX14_orders_27 4 rfl ?_
        refine jv_ask (jv_runV (As := [.int (nI v)]) (rest := [.int (nI (((6 * p) + (v_of S p 0)) - 1)), .ref oa]) X dX14_orders_29 (c_X3_placeOf hG (hpk.sub hag_Mi) hW (by omega) v (by omega)) (lw_V q1196 q609 q610 q102 q611) hd_X3_placeOf (hag_Mi.c hb) rfl (Nat.le_of_ble_eq_true rfl) (Nat.le_of_ble_eq_true rfl) (by omega) (by omega) rfl (Nat.le_of_ble_eq_true rfl)) ?_
        refine jv_isub (w := nI ((((6 * p) + (v_of S p 0)) - 1) - (bef S p v))) X dX14_orders_32 (pk_sub (by omega)) ?_
        refine jv_iload X dX14_orders_33 4 rfl ?_
        refine jv_iast (g := upd g_ ((((6 * p) + (v_of S p 0)) - 1) - (bef S p v)) (nI v)) X dX14_orders_35 hco hfo (jn_in (by omega) (by decide)) (by rw [nI_clamp (by omega)]) ?_
        refine jv_iinc (v := nI (v + 1)) (lv' := [(4, .int (nI (v + 1))), (0, .ref t), (1, .ref a), (2, .int (nI (6 * p))), (3, .int (nI (v_of S p 0)))]) X dX14_orders_36 4 rfl (nI_1 _) (by decide) rfl ?_
        refine jv_goto 11 X dX14_orders_39 (by decide) ?_
        refine jv_lv (lv' := [(0, .ref t), (1, .ref a), (2, .int (nI (6 * p))), (3, .int (nI (v_of S p 0))), (4, .int (nI (v + 1)))]) [1, 2, 3, 4, 0] rfl ?_
        exact jv_widen (by omega) (by omega) (ih_11 (v + 1) (upd g_ (6 * p + v_of S p 0 - 1 - bef S p v) (nI v)) (jv_up Mi oa (.inl (G.2.2.1 0, 36, .inl (upd g_ ((((6 * p) + (v_of S p 0)) - 1) - (bef S p v)) (nI v))))) (by omega) (fun w hw => by
            simp only [upd]
            by_cases e : w = v
            · rw [e, if_pos rfl]
            · rw [if_neg (fun z => e (bef_inj hW hV hp (show w < v_of S p 0 by omega) (show v < v_of S p 0 by omega) (by have := bef_in (S := S) (p := p) (show w < v_of S p 0 by omega); omega)))]
              exact hg w (by omega)) (fun j hj => by
            simp only [upd]
            rw [if_neg (by omega)]
            exact hsm j hj) ((jv_up_n (ck_ne hct hco rfl)).trans hct) ((jv_up_n hmo).trans hcm) jv_up_s ((jv_up_n (Ne.symm hos)).trans hcs) (jag.put hag_Mi hno) (by omega))
  refine jv_lv (lv' := [(0, .ref t), (1, .ref a), (2, .int (nI (6 * p))), (3, .int (nI (v_of S p 0))), (4, .int (nI 0))]) [2, 3, 4, 1, 0] rfl ?_
  exact jv_widen (Nat.le_refl _) (Nat.le_refl _) (lp11_1 (v_of S p 0 + 1) 0 g0 M (Nat.zero_le _) (fun w hw => absurd hw (Nat.not_lt_zero _)) (fun j _ => rfl) ht hma hoa hsa hag (by omega))
set_option maxHeartbeats 4000000 in
theorem c_X14_init_X16 {l : Launch} {G : jv_G}  {σ : jk_A} (hG : jk_G G σ) {B : jv_M} {τ : Nat → Nat} {b t : Nat} {S : Nat → Nat} (hB : jbd G B τ b S) (hS : wfS S) (hL : wfL S) (hV : wfV S) (hnt : B t = none) (hft : G.1 ≤ t) (m_ : Int32)  : jv_Ct G l yX14_init cX14_init 4 (none) 10 333 1092 303 [.ref t, .ref b, .int m_] (jv_up B t (.inr (13, [.null, .null, .null, .int 0, .null]))) (jv_qv G (fun M' => ∃ ma oa sa, jse 13 [] G B M' S b t m_ ma oa sa (fun _ => 0))) := by
  refine jv_Ct.of (lv := [(0, .ref t), (1, .ref b), (2, .int m_)]) (by decide) (Nat.le_of_ble_eq_true rfl) rfl ?_
  intro x Q_ hl_ hQ X
  subst hl_
  have hB0 := hB
  obtain ⟨lp, lr, la, P, R, A, hb, hfb, ⟨⟨mp_, ep, fp, hlp, hep, hn6, hfp, -, -, -⟩, hP⟩, ⟨⟨mr_, er, fr_, hlr, her, hn30, hfr_, -, -, -⟩, hR⟩, ⟨ma_, ea, fa, hla, hea, hn6a, hfa, -, -, -⟩, hA⟩ := id hB0
  have hW := hS.1
  have hp0 := hW.p
  have hr0 := hW.r
  have ha0 := hW.a
  refine jv_aload_n X dX14_init_0 0 rfl ?_
  refine jv_obj0 X dX14_init_1 q1187 (Nat.le_of_ble_eq_true rfl) (Nat.le_of_ble_eq_true rfl) ?_
  refine jv_aload_n X dX14_init_4 0 rfl ?_
  refine jv_bipush (v := nI 36) X dX14_init_5 rfl ?_
  refine jv_newi (N := 36) (k1 := 1) (n1 := 36) X dX14_init_7 q563 (by decide) rfl (by decide) rfl rfl (Nat.le_of_ble_eq_true rfl) (Nat.le_of_ble_eq_true rfl) (fun q_1 hnq_1 hbq_1 => ?_)
  refine jv_putF (fs' := [.null, .null, .ref q_1, .int 0, .null]) X dX14_init_9 ((jv_up_n (new_ne hnq_1 jv_up_s)).trans jv_up_s) hft (T := TX16) (N := 5) (C := RX16) rfl in_X16 tyX16 tyX16_ok nmX16 2 (by decide) q1200 rfl rfl rfl rfl rfl rfl rfl (show 2 < 5 from by decide) rfl ?_
  refine jv_aload_n X dX14_init_12 0 rfl ?_
  refine jv_bipush (v := nI 6) X dX14_init_13 rfl ?_
  refine jv_newi (N := 6) (k1 := 2) (n1 := 42) X dX14_init_15 q563 (by decide) rfl (by decide) rfl rfl (Nat.le_of_ble_eq_true rfl) (Nat.le_of_ble_eq_true rfl) (fun q_2 hnq_2 hbq_2 => ?_)
  refine jv_putF (fs' := [.null, .null, .ref q_1, .int 0, .ref q_2]) X dX14_init_17 ((jv_up_n (new_ne hnq_2 jv_up_s)).trans jv_up_s) hft (T := TX16) (N := 5) (C := RX16) rfl in_X16 tyX16 tyX16_ok nmX16 4 (by decide) q1202 rfl rfl rfl rfl rfl rfl rfl (show 4 < 5 from by decide) rfl ?_
  refine jv_aload_n X dX14_init_20 0 rfl ?_
  refine jv_aload_n X dX14_init_21 1 rfl ?_
  refine jv_putF (fs' := [.ref b, .null, .ref q_1, .int 0, .ref q_2]) X dX14_init_22 jv_up_s hft (T := TX16) (N := 5) (C := RX16) rfl in_X16 tyX16 tyX16_ok nmX16 0 (by decide) q1198 rfl rfl rfl rfl rfl rfl rfl (show 0 < 5 from by decide) rfl ?_
  rw [jv_up_up]
  refine jv_aload_n X dX14_init_25 0 rfl ?_
  refine jv_iload_n X dX14_init_26 2 rfl ?_
  refine jv_putF (fs' := [.ref b, .null, .ref q_1, .int m_, .ref q_2]) X dX14_init_27 jv_up_s hft (T := TX16) (N := 5) (C := RX16) rfl in_X16 tyX16 tyX16_ok nmX16 3 (by decide) q1201 rfl rfl rfl rfl rfl rfl rfl (show 3 < 5 from by decide) rfl ?_
  rw [jv_up_up]
  refine jv_aload_n X dX14_init_30 0 rfl ?_
  refine jv_aload_n X dX14_init_31 1 rfl ?_
  refine jv_callr (jv_runV (As := []) (rest := [.ref t]) X dX14_init_32 (c_X1_masks hG (hB0.sub (jag.put (jag.new (jag.put (jag.new (jag.new jag.rf hnt) hnq_1) hnt) hnq_2) hnt) hp0) hS hL) (lw_V q1188 q863 q864 q91 q865) hd_X1_masks ((jag.put (jag.new (jag.put (jag.new (jag.new jag.rf hnt) hnq_1) hnt) hnq_2) hnt).c hb) rfl (Nat.le_of_ble_eq_true rfl) (Nat.le_of_ble_eq_true rfl) (by omega) (by omega) rfl (Nat.le_of_ble_eq_true rfl)) (fun q_3 M_ h_ => ?_)
  obtain ⟨hnq_3, hbq_3, gq_3, hm_, hgq_3⟩ := h_
  rw [hm_]
  clear hm_
  refine jv_putF (fs' := [.ref b, .ref q_3, .ref q_1, .int m_, .ref q_2]) X dX14_init_35 ((jv_up_n (new_ne hnq_3 jv_up_s)).trans jv_up_s) hft (T := TX16) (N := 5) (C := RX16) rfl in_X16 tyX16 tyX16_ok nmX16 1 (by decide) q1199 rfl rfl rfl rfl rfl rfl rfl (show 1 < 5 from by decide) rfl ?_
  refine jv_iconst (v := nI 0) X dX14_init_38 rfl ?_
  refine jv_istore_n (lv' := [(3, .int (nI 0)), (0, .ref t), (1, .ref b), (2, .int m_)]) X dX14_init_39 rfl (by decide) rfl ?_
  have lp40_4 : ∀ (d_40 : Nat) (i : Nat) (go_ : Nat → Int32) (Mi : jv_M), i ≤ S 0 → (∀ p, p < i → ∀ k, k ≤ v_of S p 0 → go_ (6 * p + k) = nI (rk S p k)) → Mi t = some (.inr (13, [.ref b, .ref q_3, .ref q_1, .int m_, .ref q_2])) → Mi q_3 = some (.inl (G.2.2.1 0, S 1, .inl gq_3)) → Mi q_1 = some (.inl (G.2.2.1 0, 36, .inl go_)) → Mi q_2 = some (.inl (G.2.2.1 0, 6, .inl (fun _ => 0))) → jag B Mi → S 0 - i < d_40 → jv_J x G 4 Q_ Mi (303 + 5 * i) (972 + 20 * i) 40 [(0, .ref t), (1, .ref b), (2, .int m_), (3, .int (nI i))] [] := by
    intro d_40
    induction d_40 with
    | zero => intro i go_ Mi hi hgo_ hct hcm hco hcs hag_Mi hm_40; exact absurd hm_40 (Nat.not_lt_zero _)
    | succ d_40 ih_40 =>
      intro i go_ Mi hi hgo_ hct hcm hco hcs hag_Mi hm_40
      refine jv_iload_n X dX14_init_40 3 rfl ?_
      refine jv_aload_n X dX14_init_41 1 rfl ?_
      refine jv_getN X dX14_init_42 (hag_Mi.c hb) (T := TX1) (N := 3) (C := RX1) rfl in_X1 0 (by decide) q181 rfl rfl ?_
      refine jv_ask (jv_runV (As := []) (rest := [.int (nI i)]) X dX14_init_45 (c_J2_size (hag_Mi.c hlp)) (lw_V q1189 q284 q285 q94 q286) hd_J2_size (hag_Mi.c hlp) rfl (Nat.le_of_ble_eq_true rfl) (Nat.le_of_ble_eq_true rfl) (by omega) (by omega) rfl (Nat.le_of_ble_eq_true rfl)) ?_
      refine jn_icmp_ge 76 X dX14_init_48 (by decide) (by omega) (by omega) (fun c48 => ?_) (fun c48 => ?_)
      · skip
        exact jv_vret X dX14_init_76 hQ (by omega) (by omega) ⟨q_3, q_1, q_2, ⟨hct, hft, hnt⟩, ⟨_, hcm, fun k hk => hgq_3 k hk⟩, ⟨_, hco, fun p k hp hk => hgo_ p (by omega) k hk⟩, ⟨_, hcs, fun _ _ => rfl, hbq_2, (jag.none (jag.put (jag.new (jag.new jag.rf hnt) hnq_1) hnt) hnq_2)⟩, fun _ _ => (show 0 < 6 by decide), (Ne.symm (new_ne hnq_3 ((jv_up_n (Ne.symm (new_ne hnq_2 jv_up_s))).trans jv_up_s))), (new_ne hnq_2 ((jv_up_n (Ne.symm (new_ne hnq_1 jv_up_s))).trans jv_up_s)), hag_Mi⟩
      · skip
        refine jv_aload_n X dX14_init_51 0 rfl ?_
        refine jv_aload_n X dX14_init_52 1 rfl ?_
        refine jv_getN X dX14_init_53 (hag_Mi.c hb) (T := TX1) (N := 3) (C := RX1) rfl in_X1 0 (by decide) q181 rfl rfl ?_
        refine jv_iload_n X dX14_init_56 3 rfl ?_
        refine jv_callr (jv_runV (As := [.int (nI i)]) (rest := [.ref t]) X dX14_init_57 (c_J2_get (hag_Mi.c hlp) (hag_Mi.c hep) i (P i) (by omega) (by omega) (by omega) (by rw [hfp _ (by omega)]; rfl)) (lw_V q1190 q533 q534 q94 q535) hd_J2_get (hag_Mi.c hlp) rfl (Nat.le_of_ble_eq_true rfl) (Nat.le_of_ble_eq_true rfl) (by omega) (by omega) rfl (Nat.le_of_ble_eq_true rfl)) (fun rr_ M_ h_ => ?_)
        obtain ⟨hr_, hm_⟩ := h_
        rw [hr_, hm_]
        clear hr_ hm_
        obtain ⟨lv_6, V_6, hpk_6, -, ⟨mv_6, ev_6, fv_6, hlv_6, hev_6, hnv_6, hfv_6, -, -, -⟩, hvv_6⟩ := hP i (by omega)
        have hnv5_6 := hW.nv (show i < 6 by omega)
        refine jv_castS X dX14_init_60 (hag_Mi.c hpk_6) (r := (RX3, TX3, 2)) rfl q1191 ?_
        refine jv_bipush (v := nI 6) X dX14_init_63 rfl ?_
        refine jv_iload_n X dX14_init_65 3 rfl ?_
        refine jv_imul (w := nI (6 * i)) X dX14_init_66 (pk_mul _ _) ?_
        refine jv_callv (jv_runU (As := [.ref (P i), .int (nI (6 * i))]) (rest := []) X dX14_init_67 (c_X14_orders_X16 hG (hP i (by omega)) hW (show i < S 0 by omega) hV ⟨hct, hcm, hco, hcs, hag_Mi⟩ hbq_1 (jag.none (jag.new jag.rf hnt) hnq_1) (Ne.symm (new_ne hnq_3 ((jv_up_n (Ne.symm (new_ne hnq_1 jv_up_s))).trans ((jv_up_n (new_ne hnq_2 ((jv_up_n (Ne.symm (new_ne hnq_1 jv_up_s))).trans jv_up_s))).trans ((jv_up_n (Ne.symm (new_ne hnq_1 jv_up_s))).trans jv_up_s))))) (new_ne hnq_2 ((jv_up_n (Ne.symm (new_ne hnq_1 jv_up_s))).trans jv_up_s)) (Ne.symm (new_ne hnq_3 ((jv_up_n (Ne.symm (new_ne hnq_2 jv_up_s))).trans jv_up_s)))) (jv_cuP X q1192 q2472 q1193 q1194 q122 q1195 q1333 ⟨by decide, by decide⟩ hd_X14_orders (Nat.le_of_ble_eq_true rfl) (Nat.le_of_ble_eq_true rfl)) hct (show jv_cl[13]? = some (RX16, TX16, 5) from rfl) (by omega) (by omega) rfl (Nat.le_of_ble_eq_true rfl)) (fun M7 h_ => ?_)
        obtain ⟨go7, ⟨ht7, hm7, ho7, hs7, hag7⟩, hk7, hj7⟩ := h_
        refine jv_iinc (v := nI (i + 1)) (lv' := [(3, .int (nI (i + 1))), (0, .ref t), (1, .ref b), (2, .int m_)]) X dX14_init_70 3 rfl (nI_1 _) (by decide) rfl ?_
        refine jv_goto 40 X dX14_init_73 (by decide) ?_
        refine jv_lv (lv' := [(0, .ref t), (1, .ref b), (2, .int m_), (3, .int (nI (i + 1)))]) [1, 2, 3, 0] rfl ?_
        exact jv_widen (by omega) (by omega) (ih_40 (i + 1) go7 M7 (by omega) (fun p hp k hk => by
            by_cases e : p = i
            · subst e; exact hk7 k hk
            · rw [hj7 (6 * p + k) (by have := hW.nv (show p < 6 by omega); omega)]; exact hgo_ p (by omega) k hk) ht7 hm7 ho7 hs7 hag7 (by omega))
  refine jv_lv (lv' := [(0, .ref t), (1, .ref b), (2, .int m_), (3, .int (nI 0))]) [1, 2, 3, 0] rfl ?_
  exact jv_widen (Nat.le_refl _) (Nat.le_refl _) (lp40_4 (S 0 + 1) 0 (fun _ => 0) (jv_up (jv_up (jv_up (jv_up (jv_up (jv_up (jv_up B t (.inr (13, [.null, .null, .null, .int 0, .null]))) q_1 (.inl (G.2.2.1 0, 36, .inl (fun _ => 0)))) t (.inr (13, [.null, .null, .ref q_1, .int 0, .null]))) q_2 (.inl (G.2.2.1 0, 6, .inl (fun _ => 0)))) t (.inr (13, [.ref b, .null, .ref q_1, .int m_, .ref q_2]))) q_3 (.inl (G.2.2.1 0, S 1, .inl gq_3))) t (.inr (13, [.ref b, .ref q_3, .ref q_1, .int m_, .ref q_2]))) (Nat.zero_le _) (fun p hp => absurd hp (Nat.not_lt_zero _)) jv_up_s ((jv_up_n (Ne.symm (new_ne hnq_3 jv_up_s))).trans jv_up_s) ((jv_up_n (Ne.symm (new_ne hnq_1 jv_up_s))).trans ((jv_up_n (new_ne hnq_3 ((jv_up_n (Ne.symm (new_ne hnq_1 jv_up_s))).trans ((jv_up_n (new_ne hnq_2 ((jv_up_n (Ne.symm (new_ne hnq_1 jv_up_s))).trans jv_up_s))).trans ((jv_up_n (Ne.symm (new_ne hnq_1 jv_up_s))).trans jv_up_s))))).trans ((jv_up_n (Ne.symm (new_ne hnq_1 jv_up_s))).trans ((jv_up_n (new_ne hnq_2 ((jv_up_n (Ne.symm (new_ne hnq_1 jv_up_s))).trans jv_up_s))).trans ((jv_up_n (Ne.symm (new_ne hnq_1 jv_up_s))).trans jv_up_s))))) ((jv_up_n (Ne.symm (new_ne hnq_2 jv_up_s))).trans ((jv_up_n (new_ne hnq_3 ((jv_up_n (Ne.symm (new_ne hnq_2 jv_up_s))).trans jv_up_s))).trans ((jv_up_n (Ne.symm (new_ne hnq_2 jv_up_s))).trans jv_up_s))) (jag.put (jag.new (jag.put (jag.new (jag.put (jag.new (jag.new jag.rf hnt) hnq_1) hnt) hnq_2) hnt) hnq_3) hnt) (by omega))
set_option maxHeartbeats 4000000 in
theorem c_X14_orders_X18 {l : Launch} {G : jv_G} {M : jv_M} {σ : jk_A} (hG : jk_G G σ) {B : jv_M} {τ : Nat → Nat} {tg_ b a p : Nat} {S : Nat → Nat} (hpk : jpack G B τ tg_ a S p) (hW : wfB S) (hp : p < S 0) (hV : wfV S) {t ma oa sa : Nat} {m_ : Int32} {gm g0 gs : Nat → Int32} (hsc : jsc 15 [.int 0, .int 0] G B M b t m_ (S 1) ma oa sa gm g0 gs) (hfo : G.1 ≤ oa) (hno : B oa = none) (hmo : ma ≠ oa) (hos : oa ≠ sa) (hms : ma ≠ sa)   : jv_Ct G l yX14_orders cX14_orders 5 (none) 4 5 20 95 [.ref t, .ref a, .int (nI (6 * p))] M (jv_qv G (fun M' => ∃ g', jsc 15 [.int 0, .int 0] G B M' b t m_ (S 1) ma oa sa gm g' gs ∧ (∀ k, k ≤ v_of S p 0 → g' (6 * p + k) = nI (rk S p k)) ∧ (∀ j, (j < 6 * p ∨ 6 * p + v_of S p 0 < j) → g' j = g0 j))) := by
  refine jv_Ct.of (lv := [(0, .ref t), (1, .ref a), (2, .int (nI (6 * p)))]) (by decide) (Nat.le_of_ble_eq_true rfl) rfl ?_
  intro x Q_ hl_ hQ X
  subst hl_
  obtain ⟨ht, hma, hoa, hsa, hag⟩ := id hsc
  obtain ⟨lv, V, hb, hfb, ⟨mc_, e, f, hl, he, hn5, hf, -, -, -⟩, hv⟩ := id hpk
  have hp0 := hW.p
  have hnv := hW.nv (show p < 6 by omega)
  refine jv_aload_n X dX14_orders_0 1 rfl ?_
  refine jv_getN X dX14_orders_1 (hag.c hb) (T := TX3) (N := 2) (C := RX3) rfl in_X3 0 (by decide) q353 rfl rfl ?_
  refine jv_ask (jv_runV (As := []) (rest := []) X dX14_orders_4 (c_J2_size (hag.c hl)) (lw_V q1189 q284 q285 q94 q286) hd_J2_size (hag.c hl) rfl (Nat.le_of_ble_eq_true rfl) (Nat.le_of_ble_eq_true rfl) (Nat.le_of_ble_eq_true rfl) (Nat.le_of_ble_eq_true rfl) rfl (Nat.le_of_ble_eq_true rfl)) ?_
  refine jv_istore_n (lv' := [(3, .int (nI (v_of S p 0))), (0, .ref t), (1, .ref a), (2, .int (nI (6 * p)))]) X dX14_orders_7 rfl (by decide) rfl ?_
  refine jv_iconst (v := nI 0) X dX14_orders_8 rfl ?_
  refine jv_istore (lv' := [(4, .int (nI 0)), (3, .int (nI (v_of S p 0))), (0, .ref t), (1, .ref a), (2, .int (nI (6 * p)))]) X dX14_orders_9 (by decide) rfl ?_
  have lp11_1 : ∀ (d_11 : Nat) (v : Nat) (g_ : Nat → Int32) (Mi : jv_M), v ≤ v_of S p 0 → (∀ w, w < v → g_ (6 * p + v_of S p 0 - 1 - bef S p w) = nI w) → (∀ j, (j < 6 * p ∨ 6 * p + v_of S p 0 ≤ j) → g_ j = g0 j) → Mi t = some (.inr (15, [.ref b, .ref ma, .ref oa, .int m_, .ref sa, .int 0, .int 0])) → Mi ma = some (.inl (G.2.2.1 0, S 1, .inl gm)) → Mi oa = some (.inl (G.2.2.1 0, 36, .inl g_)) → Mi sa = some (.inl (G.2.2.1 0, 6, .inl gs)) → jag B Mi → v_of S p 0 - v < d_11 → jv_J x G 5 Q_ Mi (0 + 1 * v) (0 + 4 * v) 11 [(0, .ref t), (1, .ref a), (2, .int (nI (6 * p))), (3, .int (nI (v_of S p 0))), (4, .int (nI v))] [] := by
    intro d_11
    induction d_11 with
    | zero => intro v g_ Mi hvn hg hsm hct hcm hco hcs hag_Mi hm_11; exact absurd hm_11 (Nat.not_lt_zero _)
    | succ d_11 ih_11 =>
      intro v g_ Mi hvn hg hsm hct hcm hco hcs hag_Mi hm_11
      refine jv_iload X dX14_orders_11 4 rfl ?_
      refine jv_iload_n X dX14_orders_13 3 rfl ?_
      refine jn_icmp_ge 42 X dX14_orders_14 (by decide) (by omega) (by omega) (fun c14 => ?_) (fun c14 => ?_)
      · skip
        refine jv_aload_n X dX14_orders_42 0 rfl ?_
        refine jv_get X dX14_orders_43 hct (T := TX18) (N := 7) (C := RX18) rfl in_X18 2 (by decide) q1200 rfl rfl ?_
        refine jv_iload_n X dX14_orders_46 2 rfl ?_
        refine jv_iload_n X dX14_orders_47 3 rfl ?_
        refine jv_iadd (w := nI ((6 * p) + (v_of S p 0))) X dX14_orders_48 (nI_add _ _) ?_
        refine jv_iconst (v := nI 5) X dX14_orders_49 rfl ?_
        refine jv_iast (g := upd g_ ((6 * p) + (v_of S p 0)) (nI 5)) X dX14_orders_50 hco hfo (jn_in (by omega) (by decide)) (by rw [nI_clamp (by omega)]) ?_
        exact jv_vret X dX14_orders_51 hQ (by omega) (by omega) ⟨_, ⟨((jv_up_n (ck_ne hct hco rfl)).trans hct), ((jv_up_n hmo).trans hcm), jv_up_s, ((jv_up_n (Ne.symm hos)).trans hcs), (jag.put hag_Mi hno)⟩, ord_ok hW hV hp (fun w hw => by
            simp only [upd]
            rw [if_neg (by have := bef_in hw; omega)]
            exact hg w (by omega)) (by simp [upd]), (fun j hj => by
            simp only [upd]
            rw [if_neg (by omega)]
            exact hsm j (by omega))⟩
      · skip
        have hbi_ := bef_in (S := S) (p := p) (show v < v_of S p 0 by omega)
        refine jv_aload_n X dX14_orders_17 0 rfl ?_
        refine jv_get X dX14_orders_18 hct (T := TX18) (N := 7) (C := RX18) rfl in_X18 2 (by decide) q1200 rfl rfl ?_
        refine jv_iload_n X dX14_orders_21 2 rfl ?_
        refine jv_iload_n X dX14_orders_22 3 rfl ?_
        refine jv_iadd (w := nI ((6 * p) + (v_of S p 0))) X dX14_orders_23 (nI_add _ _) ?_
        refine jv_iconst (v := nI 1) X dX14_orders_24 rfl ?_
        refine jv_isub (w := nI (((6 * p) + (v_of S p 0)) - 1)) X dX14_orders_25 (pk_sub (by omega)) ?_
        refine jv_aload_n X dX14_orders_26 1 rfl ?_
        refine jv_iload X dX14_orders_27 4 rfl ?_
        refine jv_ask (jv_runV (As := [.int (nI v)]) (rest := [.int (nI (((6 * p) + (v_of S p 0)) - 1)), .ref oa]) X dX14_orders_29 (c_X3_placeOf hG (hpk.sub hag_Mi) hW (by omega) v (by omega)) (lw_V q1196 q609 q610 q102 q611) hd_X3_placeOf (hag_Mi.c hb) rfl (Nat.le_of_ble_eq_true rfl) (Nat.le_of_ble_eq_true rfl) (by omega) (by omega) rfl (Nat.le_of_ble_eq_true rfl)) ?_
        refine jv_isub (w := nI ((((6 * p) + (v_of S p 0)) - 1) - (bef S p v))) X dX14_orders_32 (pk_sub (by omega)) ?_
        refine jv_iload X dX14_orders_33 4 rfl ?_
        refine jv_iast (g := upd g_ ((((6 * p) + (v_of S p 0)) - 1) - (bef S p v)) (nI v)) X dX14_orders_35 hco hfo (jn_in (by omega) (by decide)) (by rw [nI_clamp (by omega)]) ?_
        refine jv_iinc (v := nI (v + 1)) (lv' := [(4, .int (nI (v + 1))), (0, .ref t), (1, .ref a), (2, .int (nI (6 * p))), (3, .int (nI (v_of S p 0)))]) X dX14_orders_36 4 rfl (nI_1 _) (by decide) rfl ?_
        refine jv_goto 11 X dX14_orders_39 (by decide) ?_
        refine jv_lv (lv' := [(0, .ref t), (1, .ref a), (2, .int (nI (6 * p))), (3, .int (nI (v_of S p 0))), (4, .int (nI (v + 1)))]) [1, 2, 3, 4, 0] rfl ?_
        exact jv_widen (by omega) (by omega) (ih_11 (v + 1) (upd g_ (6 * p + v_of S p 0 - 1 - bef S p v) (nI v)) (jv_up Mi oa (.inl (G.2.2.1 0, 36, .inl (upd g_ ((((6 * p) + (v_of S p 0)) - 1) - (bef S p v)) (nI v))))) (by omega) (fun w hw => by
            simp only [upd]
            by_cases e : w = v
            · rw [e, if_pos rfl]
            · rw [if_neg (fun z => e (bef_inj hW hV hp (show w < v_of S p 0 by omega) (show v < v_of S p 0 by omega) (by have := bef_in (S := S) (p := p) (show w < v_of S p 0 by omega); omega)))]
              exact hg w (by omega)) (fun j hj => by
            simp only [upd]
            rw [if_neg (by omega)]
            exact hsm j hj) ((jv_up_n (ck_ne hct hco rfl)).trans hct) ((jv_up_n hmo).trans hcm) jv_up_s ((jv_up_n (Ne.symm hos)).trans hcs) (jag.put hag_Mi hno) (by omega))
  refine jv_lv (lv' := [(0, .ref t), (1, .ref a), (2, .int (nI (6 * p))), (3, .int (nI (v_of S p 0))), (4, .int (nI 0))]) [2, 3, 4, 1, 0] rfl ?_
  exact jv_widen (Nat.le_refl _) (Nat.le_refl _) (lp11_1 (v_of S p 0 + 1) 0 g0 M (Nat.zero_le _) (fun w hw => absurd hw (Nat.not_lt_zero _)) (fun j _ => rfl) ht hma hoa hsa hag (by omega))
set_option maxHeartbeats 4000000 in
theorem c_X14_init_X18 {l : Launch} {G : jv_G}  {σ : jk_A} (hG : jk_G G σ) {B : jv_M} {τ : Nat → Nat} {b t : Nat} {S : Nat → Nat} (hB : jbd G B τ b S) (hS : wfS S) (hL : wfL S) (hV : wfV S) (hnt : B t = none) (hft : G.1 ≤ t) (m_ : Int32)  : jv_Ct G l yX14_init cX14_init 4 (none) 10 333 1092 303 [.ref t, .ref b, .int m_] (jv_up B t (.inr (15, [.null, .null, .null, .int 0, .null, .int 0, .int 0]))) (jv_qv G (fun M' => ∃ ma oa sa, jse 15 [.int 0, .int 0] G B M' S b t m_ ma oa sa (fun _ => 0))) := by
  refine jv_Ct.of (lv := [(0, .ref t), (1, .ref b), (2, .int m_)]) (by decide) (Nat.le_of_ble_eq_true rfl) rfl ?_
  intro x Q_ hl_ hQ X
  subst hl_
  have hB0 := hB
  obtain ⟨lp, lr, la, P, R, A, hb, hfb, ⟨⟨mp_, ep, fp, hlp, hep, hn6, hfp, -, -, -⟩, hP⟩, ⟨⟨mr_, er, fr_, hlr, her, hn30, hfr_, -, -, -⟩, hR⟩, ⟨ma_, ea, fa, hla, hea, hn6a, hfa, -, -, -⟩, hA⟩ := id hB0
  have hW := hS.1
  have hp0 := hW.p
  have hr0 := hW.r
  have ha0 := hW.a
  refine jv_aload_n X dX14_init_0 0 rfl ?_
  refine jv_obj0 X dX14_init_1 q1187 (Nat.le_of_ble_eq_true rfl) (Nat.le_of_ble_eq_true rfl) ?_
  refine jv_aload_n X dX14_init_4 0 rfl ?_
  refine jv_bipush (v := nI 36) X dX14_init_5 rfl ?_
  refine jv_newi (N := 36) (k1 := 1) (n1 := 36) X dX14_init_7 q563 (by decide) rfl (by decide) rfl rfl (Nat.le_of_ble_eq_true rfl) (Nat.le_of_ble_eq_true rfl) (fun q_1 hnq_1 hbq_1 => ?_)
  refine jv_putF (fs' := [.null, .null, .ref q_1, .int 0, .null, .int 0, .int 0]) X dX14_init_9 ((jv_up_n (new_ne hnq_1 jv_up_s)).trans jv_up_s) hft (T := TX18) (N := 7) (C := RX18) rfl in_X18 tyX18 tyX18_ok nmX18 2 (by decide) q1200 rfl rfl rfl rfl rfl rfl rfl (show 2 < 7 from by decide) rfl ?_
  refine jv_aload_n X dX14_init_12 0 rfl ?_
  refine jv_bipush (v := nI 6) X dX14_init_13 rfl ?_
  refine jv_newi (N := 6) (k1 := 2) (n1 := 42) X dX14_init_15 q563 (by decide) rfl (by decide) rfl rfl (Nat.le_of_ble_eq_true rfl) (Nat.le_of_ble_eq_true rfl) (fun q_2 hnq_2 hbq_2 => ?_)
  refine jv_putF (fs' := [.null, .null, .ref q_1, .int 0, .ref q_2, .int 0, .int 0]) X dX14_init_17 ((jv_up_n (new_ne hnq_2 jv_up_s)).trans jv_up_s) hft (T := TX18) (N := 7) (C := RX18) rfl in_X18 tyX18 tyX18_ok nmX18 4 (by decide) q1202 rfl rfl rfl rfl rfl rfl rfl (show 4 < 7 from by decide) rfl ?_
  refine jv_aload_n X dX14_init_20 0 rfl ?_
  refine jv_aload_n X dX14_init_21 1 rfl ?_
  refine jv_putF (fs' := [.ref b, .null, .ref q_1, .int 0, .ref q_2, .int 0, .int 0]) X dX14_init_22 jv_up_s hft (T := TX18) (N := 7) (C := RX18) rfl in_X18 tyX18 tyX18_ok nmX18 0 (by decide) q1198 rfl rfl rfl rfl rfl rfl rfl (show 0 < 7 from by decide) rfl ?_
  rw [jv_up_up]
  refine jv_aload_n X dX14_init_25 0 rfl ?_
  refine jv_iload_n X dX14_init_26 2 rfl ?_
  refine jv_putF (fs' := [.ref b, .null, .ref q_1, .int m_, .ref q_2, .int 0, .int 0]) X dX14_init_27 jv_up_s hft (T := TX18) (N := 7) (C := RX18) rfl in_X18 tyX18 tyX18_ok nmX18 3 (by decide) q1201 rfl rfl rfl rfl rfl rfl rfl (show 3 < 7 from by decide) rfl ?_
  rw [jv_up_up]
  refine jv_aload_n X dX14_init_30 0 rfl ?_
  refine jv_aload_n X dX14_init_31 1 rfl ?_
  refine jv_callr (jv_runV (As := []) (rest := [.ref t]) X dX14_init_32 (c_X1_masks hG (hB0.sub (jag.put (jag.new (jag.put (jag.new (jag.new jag.rf hnt) hnq_1) hnt) hnq_2) hnt) hp0) hS hL) (lw_V q1188 q863 q864 q91 q865) hd_X1_masks ((jag.put (jag.new (jag.put (jag.new (jag.new jag.rf hnt) hnq_1) hnt) hnq_2) hnt).c hb) rfl (Nat.le_of_ble_eq_true rfl) (Nat.le_of_ble_eq_true rfl) (by omega) (by omega) rfl (Nat.le_of_ble_eq_true rfl)) (fun q_3 M_ h_ => ?_)
  obtain ⟨hnq_3, hbq_3, gq_3, hm_, hgq_3⟩ := h_
  rw [hm_]
  clear hm_
  refine jv_putF (fs' := [.ref b, .ref q_3, .ref q_1, .int m_, .ref q_2, .int 0, .int 0]) X dX14_init_35 ((jv_up_n (new_ne hnq_3 jv_up_s)).trans jv_up_s) hft (T := TX18) (N := 7) (C := RX18) rfl in_X18 tyX18 tyX18_ok nmX18 1 (by decide) q1199 rfl rfl rfl rfl rfl rfl rfl (show 1 < 7 from by decide) rfl ?_
  refine jv_iconst (v := nI 0) X dX14_init_38 rfl ?_
  refine jv_istore_n (lv' := [(3, .int (nI 0)), (0, .ref t), (1, .ref b), (2, .int m_)]) X dX14_init_39 rfl (by decide) rfl ?_
  have lp40_4 : ∀ (d_40 : Nat) (i : Nat) (go_ : Nat → Int32) (Mi : jv_M), i ≤ S 0 → (∀ p, p < i → ∀ k, k ≤ v_of S p 0 → go_ (6 * p + k) = nI (rk S p k)) → Mi t = some (.inr (15, [.ref b, .ref q_3, .ref q_1, .int m_, .ref q_2, .int 0, .int 0])) → Mi q_3 = some (.inl (G.2.2.1 0, S 1, .inl gq_3)) → Mi q_1 = some (.inl (G.2.2.1 0, 36, .inl go_)) → Mi q_2 = some (.inl (G.2.2.1 0, 6, .inl (fun _ => 0))) → jag B Mi → S 0 - i < d_40 → jv_J x G 4 Q_ Mi (303 + 5 * i) (972 + 20 * i) 40 [(0, .ref t), (1, .ref b), (2, .int m_), (3, .int (nI i))] [] := by
    intro d_40
    induction d_40 with
    | zero => intro i go_ Mi hi hgo_ hct hcm hco hcs hag_Mi hm_40; exact absurd hm_40 (Nat.not_lt_zero _)
    | succ d_40 ih_40 =>
      intro i go_ Mi hi hgo_ hct hcm hco hcs hag_Mi hm_40
      refine jv_iload_n X dX14_init_40 3 rfl ?_
      refine jv_aload_n X dX14_init_41 1 rfl ?_
      refine jv_getN X dX14_init_42 (hag_Mi.c hb) (T := TX1) (N := 3) (C := RX1) rfl in_X1 0 (by decide) q181 rfl rfl ?_
      refine jv_ask (jv_runV (As := []) (rest := [.int (nI i)]) X dX14_init_45 (c_J2_size (hag_Mi.c hlp)) (lw_V q1189 q284 q285 q94 q286) hd_J2_size (hag_Mi.c hlp) rfl (Nat.le_of_ble_eq_true rfl) (Nat.le_of_ble_eq_true rfl) (by omega) (by omega) rfl (Nat.le_of_ble_eq_true rfl)) ?_
      refine jn_icmp_ge 76 X dX14_init_48 (by decide) (by omega) (by omega) (fun c48 => ?_) (fun c48 => ?_)
      · skip
        exact jv_vret X dX14_init_76 hQ (by omega) (by omega) ⟨q_3, q_1, q_2, ⟨hct, hft, hnt⟩, ⟨_, hcm, fun k hk => hgq_3 k hk⟩, ⟨_, hco, fun p k hp hk => hgo_ p (by omega) k hk⟩, ⟨_, hcs, fun _ _ => rfl, hbq_2, (jag.none (jag.put (jag.new (jag.new jag.rf hnt) hnq_1) hnt) hnq_2)⟩, fun _ _ => (show 0 < 6 by decide), (Ne.symm (new_ne hnq_3 ((jv_up_n (Ne.symm (new_ne hnq_2 jv_up_s))).trans jv_up_s))), (new_ne hnq_2 ((jv_up_n (Ne.symm (new_ne hnq_1 jv_up_s))).trans jv_up_s)), hag_Mi⟩
      · skip
        refine jv_aload_n X dX14_init_51 0 rfl ?_
        refine jv_aload_n X dX14_init_52 1 rfl ?_
        refine jv_getN X dX14_init_53 (hag_Mi.c hb) (T := TX1) (N := 3) (C := RX1) rfl in_X1 0 (by decide) q181 rfl rfl ?_
        refine jv_iload_n X dX14_init_56 3 rfl ?_
        refine jv_callr (jv_runV (As := [.int (nI i)]) (rest := [.ref t]) X dX14_init_57 (c_J2_get (hag_Mi.c hlp) (hag_Mi.c hep) i (P i) (by omega) (by omega) (by omega) (by rw [hfp _ (by omega)]; rfl)) (lw_V q1190 q533 q534 q94 q535) hd_J2_get (hag_Mi.c hlp) rfl (Nat.le_of_ble_eq_true rfl) (Nat.le_of_ble_eq_true rfl) (by omega) (by omega) rfl (Nat.le_of_ble_eq_true rfl)) (fun rr_ M_ h_ => ?_)
        obtain ⟨hr_, hm_⟩ := h_
        rw [hr_, hm_]
        clear hr_ hm_
        obtain ⟨lv_6, V_6, hpk_6, -, ⟨mv_6, ev_6, fv_6, hlv_6, hev_6, hnv_6, hfv_6, -, -, -⟩, hvv_6⟩ := hP i (by omega)
        have hnv5_6 := hW.nv (show i < 6 by omega)
        refine jv_castS X dX14_init_60 (hag_Mi.c hpk_6) (r := (RX3, TX3, 2)) rfl q1191 ?_
        refine jv_bipush (v := nI 6) X dX14_init_63 rfl ?_
        refine jv_iload_n X dX14_init_65 3 rfl ?_
        refine jv_imul (w := nI (6 * i)) X dX14_init_66 (pk_mul _ _) ?_
        refine jv_callv (jv_runU (As := [.ref (P i), .int (nI (6 * i))]) (rest := []) X dX14_init_67 (c_X14_orders_X18 hG (hP i (by omega)) hW (show i < S 0 by omega) hV ⟨hct, hcm, hco, hcs, hag_Mi⟩ hbq_1 (jag.none (jag.new jag.rf hnt) hnq_1) (Ne.symm (new_ne hnq_3 ((jv_up_n (Ne.symm (new_ne hnq_1 jv_up_s))).trans ((jv_up_n (new_ne hnq_2 ((jv_up_n (Ne.symm (new_ne hnq_1 jv_up_s))).trans jv_up_s))).trans ((jv_up_n (Ne.symm (new_ne hnq_1 jv_up_s))).trans jv_up_s))))) (new_ne hnq_2 ((jv_up_n (Ne.symm (new_ne hnq_1 jv_up_s))).trans jv_up_s)) (Ne.symm (new_ne hnq_3 ((jv_up_n (Ne.symm (new_ne hnq_2 jv_up_s))).trans jv_up_s)))) (jv_cuP X q1192 q2472 q1193 q1194 q122 q1195 q1415 ⟨by decide, by decide⟩ hd_X14_orders (Nat.le_of_ble_eq_true rfl) (Nat.le_of_ble_eq_true rfl)) hct (show jv_cl[15]? = some (RX18, TX18, 7) from rfl) (by omega) (by omega) rfl (Nat.le_of_ble_eq_true rfl)) (fun M7 h_ => ?_)
        obtain ⟨go7, ⟨ht7, hm7, ho7, hs7, hag7⟩, hk7, hj7⟩ := h_
        refine jv_iinc (v := nI (i + 1)) (lv' := [(3, .int (nI (i + 1))), (0, .ref t), (1, .ref b), (2, .int m_)]) X dX14_init_70 3 rfl (nI_1 _) (by decide) rfl ?_
        refine jv_goto 40 X dX14_init_73 (by decide) ?_
        refine jv_lv (lv' := [(0, .ref t), (1, .ref b), (2, .int m_), (3, .int (nI (i + 1)))]) [1, 2, 3, 0] rfl ?_
        exact jv_widen (by omega) (by omega) (ih_40 (i + 1) go7 M7 (by omega) (fun p hp k hk => by
            by_cases e : p = i
            · subst e; exact hk7 k hk
            · rw [hj7 (6 * p + k) (by have := hW.nv (show p < 6 by omega); omega)]; exact hgo_ p (by omega) k hk) ht7 hm7 ho7 hs7 hag7 (by omega))
  refine jv_lv (lv' := [(0, .ref t), (1, .ref b), (2, .int m_), (3, .int (nI 0))]) [1, 2, 3, 0] rfl ?_
  exact jv_widen (Nat.le_refl _) (Nat.le_refl _) (lp40_4 (S 0 + 1) 0 (fun _ => 0) (jv_up (jv_up (jv_up (jv_up (jv_up (jv_up (jv_up B t (.inr (15, [.null, .null, .null, .int 0, .null, .int 0, .int 0]))) q_1 (.inl (G.2.2.1 0, 36, .inl (fun _ => 0)))) t (.inr (15, [.null, .null, .ref q_1, .int 0, .null, .int 0, .int 0]))) q_2 (.inl (G.2.2.1 0, 6, .inl (fun _ => 0)))) t (.inr (15, [.ref b, .null, .ref q_1, .int m_, .ref q_2, .int 0, .int 0]))) q_3 (.inl (G.2.2.1 0, S 1, .inl gq_3))) t (.inr (15, [.ref b, .ref q_3, .ref q_1, .int m_, .ref q_2, .int 0, .int 0]))) (Nat.zero_le _) (fun p hp => absurd hp (Nat.not_lt_zero _)) jv_up_s ((jv_up_n (Ne.symm (new_ne hnq_3 jv_up_s))).trans jv_up_s) ((jv_up_n (Ne.symm (new_ne hnq_1 jv_up_s))).trans ((jv_up_n (new_ne hnq_3 ((jv_up_n (Ne.symm (new_ne hnq_1 jv_up_s))).trans ((jv_up_n (new_ne hnq_2 ((jv_up_n (Ne.symm (new_ne hnq_1 jv_up_s))).trans jv_up_s))).trans ((jv_up_n (Ne.symm (new_ne hnq_1 jv_up_s))).trans jv_up_s))))).trans ((jv_up_n (Ne.symm (new_ne hnq_1 jv_up_s))).trans ((jv_up_n (new_ne hnq_2 ((jv_up_n (Ne.symm (new_ne hnq_1 jv_up_s))).trans jv_up_s))).trans ((jv_up_n (Ne.symm (new_ne hnq_1 jv_up_s))).trans jv_up_s))))) ((jv_up_n (Ne.symm (new_ne hnq_2 jv_up_s))).trans ((jv_up_n (new_ne hnq_3 ((jv_up_n (Ne.symm (new_ne hnq_2 jv_up_s))).trans jv_up_s))).trans ((jv_up_n (Ne.symm (new_ne hnq_2 jv_up_s))).trans jv_up_s))) (jag.put (jag.new (jag.put (jag.new (jag.put (jag.new (jag.new jag.rf hnt) hnq_1) hnt) hnq_2) hnt) hnq_3) hnt) (by omega))
set_option maxHeartbeats 4000000 in
theorem c_X14_orders_X17 {l : Launch} {G : jv_G} {M : jv_M} {σ : jk_A} (hG : jk_G G σ) {B : jv_M} {τ : Nat → Nat} {tg_ b a p : Nat} {S : Nat → Nat} (hpk : jpack G B τ tg_ a S p) (hW : wfB S) (hp : p < S 0) (hV : wfV S) {t ma oa sa : Nat} {m_ : Int32} {gm g0 gs : Nat → Int32} {xa : Nat} (hsc : jsc 14 [.ref xa] G B M b t m_ (S 1) ma oa sa gm g0 gs) (hfo : G.1 ≤ oa) (hno : B oa = none) (hmo : ma ≠ oa) (hos : oa ≠ sa) (hms : ma ≠ sa)   : jv_Ct G l yX14_orders cX14_orders 5 (none) 4 5 20 95 [.ref t, .ref a, .int (nI (6 * p))] M (jv_qv G (fun M' => ∃ g', jsc 14 [.ref xa] G B M' b t m_ (S 1) ma oa sa gm g' gs ∧ (∀ k, k ≤ v_of S p 0 → g' (6 * p + k) = nI (rk S p k)) ∧ (∀ j, (j < 6 * p ∨ 6 * p + v_of S p 0 < j) → g' j = g0 j))) := by
  refine jv_Ct.of (lv := [(0, .ref t), (1, .ref a), (2, .int (nI (6 * p)))]) (by decide) (Nat.le_of_ble_eq_true rfl) rfl ?_
  intro x Q_ hl_ hQ X
  subst hl_
  obtain ⟨ht, hma, hoa, hsa, hag⟩ := id hsc
  obtain ⟨lv, V, hb, hfb, ⟨mc_, e, f, hl, he, hn5, hf, -, -, -⟩, hv⟩ := id hpk
  have hp0 := hW.p
  have hnv := hW.nv (show p < 6 by omega)
  refine jv_aload_n X dX14_orders_0 1 rfl ?_
  refine jv_getN X dX14_orders_1 (hag.c hb) (T := TX3) (N := 2) (C := RX3) rfl in_X3 0 (by decide) q353 rfl rfl ?_
  refine jv_ask (jv_runV (As := []) (rest := []) X dX14_orders_4 (c_J2_size (hag.c hl)) (lw_V q1189 q284 q285 q94 q286) hd_J2_size (hag.c hl) rfl (Nat.le_of_ble_eq_true rfl) (Nat.le_of_ble_eq_true rfl) (Nat.le_of_ble_eq_true rfl) (Nat.le_of_ble_eq_true rfl) rfl (Nat.le_of_ble_eq_true rfl)) ?_
  refine jv_istore_n (lv' := [(3, .int (nI (v_of S p 0))), (0, .ref t), (1, .ref a), (2, .int (nI (6 * p)))]) X dX14_orders_7 rfl (by decide) rfl ?_
  refine jv_iconst (v := nI 0) X dX14_orders_8 rfl ?_
  refine jv_istore (lv' := [(4, .int (nI 0)), (3, .int (nI (v_of S p 0))), (0, .ref t), (1, .ref a), (2, .int (nI (6 * p)))]) X dX14_orders_9 (by decide) rfl ?_
  have lp11_1 : ∀ (d_11 : Nat) (v : Nat) (g_ : Nat → Int32) (Mi : jv_M), v ≤ v_of S p 0 → (∀ w, w < v → g_ (6 * p + v_of S p 0 - 1 - bef S p w) = nI w) → (∀ j, (j < 6 * p ∨ 6 * p + v_of S p 0 ≤ j) → g_ j = g0 j) → Mi t = some (.inr (14, [.ref b, .ref ma, .ref oa, .int m_, .ref sa, .ref xa])) → Mi ma = some (.inl (G.2.2.1 0, S 1, .inl gm)) → Mi oa = some (.inl (G.2.2.1 0, 36, .inl g_)) → Mi sa = some (.inl (G.2.2.1 0, 6, .inl gs)) → jag B Mi → v_of S p 0 - v < d_11 → jv_J x G 5 Q_ Mi (0 + 1 * v) (0 + 4 * v) 11 [(0, .ref t), (1, .ref a), (2, .int (nI (6 * p))), (3, .int (nI (v_of S p 0))), (4, .int (nI v))] [] := by
    intro d_11
    induction d_11 with
    | zero => intro v g_ Mi hvn hg hsm hct hcm hco hcs hag_Mi hm_11; exact absurd hm_11 (Nat.not_lt_zero _)
    | succ d_11 ih_11 =>
      intro v g_ Mi hvn hg hsm hct hcm hco hcs hag_Mi hm_11
      refine jv_iload X dX14_orders_11 4 rfl ?_
      refine jv_iload_n X dX14_orders_13 3 rfl ?_
      refine jn_icmp_ge 42 X dX14_orders_14 (by decide) (by omega) (by omega) (fun c14 => ?_) (fun c14 => ?_)
      · skip
        refine jv_aload_n X dX14_orders_42 0 rfl ?_
        refine jv_get X dX14_orders_43 hct (T := TX17) (N := 6) (C := RX17) rfl in_X17 2 (by decide) q1200 rfl rfl ?_
        refine jv_iload_n X dX14_orders_46 2 rfl ?_
        refine jv_iload_n X dX14_orders_47 3 rfl ?_
        refine jv_iadd (w := nI ((6 * p) + (v_of S p 0))) X dX14_orders_48 (nI_add _ _) ?_
        refine jv_iconst (v := nI 5) X dX14_orders_49 rfl ?_
        refine jv_iast (g := upd g_ ((6 * p) + (v_of S p 0)) (nI 5)) X dX14_orders_50 hco hfo (jn_in (by omega) (by decide)) (by rw [nI_clamp (by omega)]) ?_
        exact jv_vret X dX14_orders_51 hQ (by omega) (by omega) ⟨_, ⟨((jv_up_n (ck_ne hct hco rfl)).trans hct), ((jv_up_n hmo).trans hcm), jv_up_s, ((jv_up_n (Ne.symm hos)).trans hcs), (jag.put hag_Mi hno)⟩, ord_ok hW hV hp (fun w hw => by
            simp only [upd]
            rw [if_neg (by have := bef_in hw; omega)]
            exact hg w (by omega)) (by simp [upd]), (fun j hj => by
            simp only [upd]
            rw [if_neg (by omega)]
            exact hsm j (by omega))⟩
      · skip
        have hbi_ := bef_in (S := S) (p := p) (show v < v_of S p 0 by omega)
        refine jv_aload_n X dX14_orders_17 0 rfl ?_
        refine jv_get X dX14_orders_18 hct (T := TX17) (N := 6) (C := RX17) rfl in_X17 2 (by decide) q1200 rfl rfl ?_
        refine jv_iload_n X dX14_orders_21 2 rfl ?_
        refine jv_iload_n X dX14_orders_22 3 rfl ?_
        refine jv_iadd (w := nI ((6 * p) + (v_of S p 0))) X dX14_orders_23 (nI_add _ _) ?_
        refine jv_iconst (v := nI 1) X dX14_orders_24 rfl ?_
        refine jv_isub (w := nI (((6 * p) + (v_of S p 0)) - 1)) X dX14_orders_25 (pk_sub (by omega)) ?_
        refine jv_aload_n X dX14_orders_26 1 rfl ?_
        refine jv_iload X dX14_orders_27 4 rfl ?_
        refine jv_ask (jv_runV (As := [.int (nI v)]) (rest := [.int (nI (((6 * p) + (v_of S p 0)) - 1)), .ref oa]) X dX14_orders_29 (c_X3_placeOf hG (hpk.sub hag_Mi) hW (by omega) v (by omega)) (lw_V q1196 q609 q610 q102 q611) hd_X3_placeOf (hag_Mi.c hb) rfl (Nat.le_of_ble_eq_true rfl) (Nat.le_of_ble_eq_true rfl) (by omega) (by omega) rfl (Nat.le_of_ble_eq_true rfl)) ?_
        refine jv_isub (w := nI ((((6 * p) + (v_of S p 0)) - 1) - (bef S p v))) X dX14_orders_32 (pk_sub (by omega)) ?_
        refine jv_iload X dX14_orders_33 4 rfl ?_
        refine jv_iast (g := upd g_ ((((6 * p) + (v_of S p 0)) - 1) - (bef S p v)) (nI v)) X dX14_orders_35 hco hfo (jn_in (by omega) (by decide)) (by rw [nI_clamp (by omega)]) ?_
        refine jv_iinc (v := nI (v + 1)) (lv' := [(4, .int (nI (v + 1))), (0, .ref t), (1, .ref a), (2, .int (nI (6 * p))), (3, .int (nI (v_of S p 0)))]) X dX14_orders_36 4 rfl (nI_1 _) (by decide) rfl ?_
        refine jv_goto 11 X dX14_orders_39 (by decide) ?_
        refine jv_lv (lv' := [(0, .ref t), (1, .ref a), (2, .int (nI (6 * p))), (3, .int (nI (v_of S p 0))), (4, .int (nI (v + 1)))]) [1, 2, 3, 4, 0] rfl ?_
        exact jv_widen (by omega) (by omega) (ih_11 (v + 1) (upd g_ (6 * p + v_of S p 0 - 1 - bef S p v) (nI v)) (jv_up Mi oa (.inl (G.2.2.1 0, 36, .inl (upd g_ ((((6 * p) + (v_of S p 0)) - 1) - (bef S p v)) (nI v))))) (by omega) (fun w hw => by
            simp only [upd]
            by_cases e : w = v
            · rw [e, if_pos rfl]
            · rw [if_neg (fun z => e (bef_inj hW hV hp (show w < v_of S p 0 by omega) (show v < v_of S p 0 by omega) (by have := bef_in (S := S) (p := p) (show w < v_of S p 0 by omega); omega)))]
              exact hg w (by omega)) (fun j hj => by
            simp only [upd]
            rw [if_neg (by omega)]
            exact hsm j hj) ((jv_up_n (ck_ne hct hco rfl)).trans hct) ((jv_up_n hmo).trans hcm) jv_up_s ((jv_up_n (Ne.symm hos)).trans hcs) (jag.put hag_Mi hno) (by omega))
  refine jv_lv (lv' := [(0, .ref t), (1, .ref a), (2, .int (nI (6 * p))), (3, .int (nI (v_of S p 0))), (4, .int (nI 0))]) [2, 3, 4, 1, 0] rfl ?_
  exact jv_widen (Nat.le_refl _) (Nat.le_refl _) (lp11_1 (v_of S p 0 + 1) 0 g0 M (Nat.zero_le _) (fun w hw => absurd hw (Nat.not_lt_zero _)) (fun j _ => rfl) ht hma hoa hsa hag (by omega))
set_option maxHeartbeats 4000000 in
theorem c_X14_init_X17 {l : Launch} {G : jv_G}  {σ : jk_A} (hG : jk_G G σ) {B : jv_M} {τ : Nat → Nat} {b t : Nat} {S : Nat → Nat} (hB : jbd G B τ b S) (hS : wfS S) (hL : wfL S) {xa : Nat} (hV : wfV S) (hnt : B t = none) (hft : G.1 ≤ t) (m_ : Int32)  : jv_Ct G l yX14_init cX14_init 4 (none) 10 333 1092 303 [.ref t, .ref b, .int m_] (jv_up B t (.inr (14, [.null, .null, .null, .int 0, .null, .ref xa]))) (jv_qv G (fun M' => ∃ ma oa sa, jse 14 [.ref xa] G B M' S b t m_ ma oa sa (fun _ => 0))) := by
  refine jv_Ct.of (lv := [(0, .ref t), (1, .ref b), (2, .int m_)]) (by decide) (Nat.le_of_ble_eq_true rfl) rfl ?_
  intro x Q_ hl_ hQ X
  subst hl_
  have hB0 := hB
  obtain ⟨lp, lr, la, P, R, A, hb, hfb, ⟨⟨mp_, ep, fp, hlp, hep, hn6, hfp, -, -, -⟩, hP⟩, ⟨⟨mr_, er, fr_, hlr, her, hn30, hfr_, -, -, -⟩, hR⟩, ⟨ma_, ea, fa, hla, hea, hn6a, hfa, -, -, -⟩, hA⟩ := id hB0
  have hW := hS.1
  have hp0 := hW.p
  have hr0 := hW.r
  have ha0 := hW.a
  refine jv_aload_n X dX14_init_0 0 rfl ?_
  refine jv_obj0 X dX14_init_1 q1187 (Nat.le_of_ble_eq_true rfl) (Nat.le_of_ble_eq_true rfl) ?_
  refine jv_aload_n X dX14_init_4 0 rfl ?_
  refine jv_bipush (v := nI 36) X dX14_init_5 rfl ?_
  refine jv_newi (N := 36) (k1 := 1) (n1 := 36) X dX14_init_7 q563 (by decide) rfl (by decide) rfl rfl (Nat.le_of_ble_eq_true rfl) (Nat.le_of_ble_eq_true rfl) (fun q_1 hnq_1 hbq_1 => ?_)
  refine jv_putF (fs' := [.null, .null, .ref q_1, .int 0, .null, .ref xa]) X dX14_init_9 ((jv_up_n (new_ne hnq_1 jv_up_s)).trans jv_up_s) hft (T := TX17) (N := 6) (C := RX17) rfl in_X17 tyX17 tyX17_ok nmX17 2 (by decide) q1200 rfl rfl rfl rfl rfl rfl rfl (show 2 < 6 from by decide) rfl ?_
  refine jv_aload_n X dX14_init_12 0 rfl ?_
  refine jv_bipush (v := nI 6) X dX14_init_13 rfl ?_
  refine jv_newi (N := 6) (k1 := 2) (n1 := 42) X dX14_init_15 q563 (by decide) rfl (by decide) rfl rfl (Nat.le_of_ble_eq_true rfl) (Nat.le_of_ble_eq_true rfl) (fun q_2 hnq_2 hbq_2 => ?_)
  refine jv_putF (fs' := [.null, .null, .ref q_1, .int 0, .ref q_2, .ref xa]) X dX14_init_17 ((jv_up_n (new_ne hnq_2 jv_up_s)).trans jv_up_s) hft (T := TX17) (N := 6) (C := RX17) rfl in_X17 tyX17 tyX17_ok nmX17 4 (by decide) q1202 rfl rfl rfl rfl rfl rfl rfl (show 4 < 6 from by decide) rfl ?_
  refine jv_aload_n X dX14_init_20 0 rfl ?_
  refine jv_aload_n X dX14_init_21 1 rfl ?_
  refine jv_putF (fs' := [.ref b, .null, .ref q_1, .int 0, .ref q_2, .ref xa]) X dX14_init_22 jv_up_s hft (T := TX17) (N := 6) (C := RX17) rfl in_X17 tyX17 tyX17_ok nmX17 0 (by decide) q1198 rfl rfl rfl rfl rfl rfl rfl (show 0 < 6 from by decide) rfl ?_
  rw [jv_up_up]
  refine jv_aload_n X dX14_init_25 0 rfl ?_
  refine jv_iload_n X dX14_init_26 2 rfl ?_
  refine jv_putF (fs' := [.ref b, .null, .ref q_1, .int m_, .ref q_2, .ref xa]) X dX14_init_27 jv_up_s hft (T := TX17) (N := 6) (C := RX17) rfl in_X17 tyX17 tyX17_ok nmX17 3 (by decide) q1201 rfl rfl rfl rfl rfl rfl rfl (show 3 < 6 from by decide) rfl ?_
  rw [jv_up_up]
  refine jv_aload_n X dX14_init_30 0 rfl ?_
  refine jv_aload_n X dX14_init_31 1 rfl ?_
  refine jv_callr (jv_runV (As := []) (rest := [.ref t]) X dX14_init_32 (c_X1_masks hG (hB0.sub (jag.put (jag.new (jag.put (jag.new (jag.new jag.rf hnt) hnq_1) hnt) hnq_2) hnt) hp0) hS hL) (lw_V q1188 q863 q864 q91 q865) hd_X1_masks ((jag.put (jag.new (jag.put (jag.new (jag.new jag.rf hnt) hnq_1) hnt) hnq_2) hnt).c hb) rfl (Nat.le_of_ble_eq_true rfl) (Nat.le_of_ble_eq_true rfl) (by omega) (by omega) rfl (Nat.le_of_ble_eq_true rfl)) (fun q_3 M_ h_ => ?_)
  obtain ⟨hnq_3, hbq_3, gq_3, hm_, hgq_3⟩ := h_
  rw [hm_]
  clear hm_
  refine jv_putF (fs' := [.ref b, .ref q_3, .ref q_1, .int m_, .ref q_2, .ref xa]) X dX14_init_35 ((jv_up_n (new_ne hnq_3 jv_up_s)).trans jv_up_s) hft (T := TX17) (N := 6) (C := RX17) rfl in_X17 tyX17 tyX17_ok nmX17 1 (by decide) q1199 rfl rfl rfl rfl rfl rfl rfl (show 1 < 6 from by decide) rfl ?_
  refine jv_iconst (v := nI 0) X dX14_init_38 rfl ?_
  refine jv_istore_n (lv' := [(3, .int (nI 0)), (0, .ref t), (1, .ref b), (2, .int m_)]) X dX14_init_39 rfl (by decide) rfl ?_
  have lp40_4 : ∀ (d_40 : Nat) (i : Nat) (go_ : Nat → Int32) (Mi : jv_M), i ≤ S 0 → (∀ p, p < i → ∀ k, k ≤ v_of S p 0 → go_ (6 * p + k) = nI (rk S p k)) → Mi t = some (.inr (14, [.ref b, .ref q_3, .ref q_1, .int m_, .ref q_2, .ref xa])) → Mi q_3 = some (.inl (G.2.2.1 0, S 1, .inl gq_3)) → Mi q_1 = some (.inl (G.2.2.1 0, 36, .inl go_)) → Mi q_2 = some (.inl (G.2.2.1 0, 6, .inl (fun _ => 0))) → jag B Mi → S 0 - i < d_40 → jv_J x G 4 Q_ Mi (303 + 5 * i) (972 + 20 * i) 40 [(0, .ref t), (1, .ref b), (2, .int m_), (3, .int (nI i))] [] := by
    intro d_40
    induction d_40 with
    | zero => intro i go_ Mi hi hgo_ hct hcm hco hcs hag_Mi hm_40; exact absurd hm_40 (Nat.not_lt_zero _)
    | succ d_40 ih_40 =>
      intro i go_ Mi hi hgo_ hct hcm hco hcs hag_Mi hm_40
      refine jv_iload_n X dX14_init_40 3 rfl ?_
      refine jv_aload_n X dX14_init_41 1 rfl ?_
      refine jv_getN X dX14_init_42 (hag_Mi.c hb) (T := TX1) (N := 3) (C := RX1) rfl in_X1 0 (by decide) q181 rfl rfl ?_
      refine jv_ask (jv_runV (As := []) (rest := [.int (nI i)]) X dX14_init_45 (c_J2_size (hag_Mi.c hlp)) (lw_V q1189 q284 q285 q94 q286) hd_J2_size (hag_Mi.c hlp) rfl (Nat.le_of_ble_eq_true rfl) (Nat.le_of_ble_eq_true rfl) (by omega) (by omega) rfl (Nat.le_of_ble_eq_true rfl)) ?_
      refine jn_icmp_ge 76 X dX14_init_48 (by decide) (by omega) (by omega) (fun c48 => ?_) (fun c48 => ?_)
      · skip
        exact jv_vret X dX14_init_76 hQ (by omega) (by omega) ⟨q_3, q_1, q_2, ⟨hct, hft, hnt⟩, ⟨_, hcm, fun k hk => hgq_3 k hk⟩, ⟨_, hco, fun p k hp hk => hgo_ p (by omega) k hk⟩, ⟨_, hcs, fun _ _ => rfl, hbq_2, (jag.none (jag.put (jag.new (jag.new jag.rf hnt) hnq_1) hnt) hnq_2)⟩, fun _ _ => (show 0 < 6 by decide), (Ne.symm (new_ne hnq_3 ((jv_up_n (Ne.symm (new_ne hnq_2 jv_up_s))).trans jv_up_s))), (new_ne hnq_2 ((jv_up_n (Ne.symm (new_ne hnq_1 jv_up_s))).trans jv_up_s)), hag_Mi⟩
      · skip
        refine jv_aload_n X dX14_init_51 0 rfl ?_
        refine jv_aload_n X dX14_init_52 1 rfl ?_
        refine jv_getN X dX14_init_53 (hag_Mi.c hb) (T := TX1) (N := 3) (C := RX1) rfl in_X1 0 (by decide) q181 rfl rfl ?_
        refine jv_iload_n X dX14_init_56 3 rfl ?_
        refine jv_callr (jv_runV (As := [.int (nI i)]) (rest := [.ref t]) X dX14_init_57 (c_J2_get (hag_Mi.c hlp) (hag_Mi.c hep) i (P i) (by omega) (by omega) (by omega) (by rw [hfp _ (by omega)]; rfl)) (lw_V q1190 q533 q534 q94 q535) hd_J2_get (hag_Mi.c hlp) rfl (Nat.le_of_ble_eq_true rfl) (Nat.le_of_ble_eq_true rfl) (by omega) (by omega) rfl (Nat.le_of_ble_eq_true rfl)) (fun rr_ M_ h_ => ?_)
        obtain ⟨hr_, hm_⟩ := h_
        rw [hr_, hm_]
        clear hr_ hm_
        obtain ⟨lv_6, V_6, hpk_6, -, ⟨mv_6, ev_6, fv_6, hlv_6, hev_6, hnv_6, hfv_6, -, -, -⟩, hvv_6⟩ := hP i (by omega)
        have hnv5_6 := hW.nv (show i < 6 by omega)
        refine jv_castS X dX14_init_60 (hag_Mi.c hpk_6) (r := (RX3, TX3, 2)) rfl q1191 ?_
        refine jv_bipush (v := nI 6) X dX14_init_63 rfl ?_
        refine jv_iload_n X dX14_init_65 3 rfl ?_
        refine jv_imul (w := nI (6 * i)) X dX14_init_66 (pk_mul _ _) ?_
        refine jv_callv (jv_runU (As := [.ref (P i), .int (nI (6 * i))]) (rest := []) X dX14_init_67 (c_X14_orders_X17 hG (hP i (by omega)) hW (show i < S 0 by omega) hV ⟨hct, hcm, hco, hcs, hag_Mi⟩ hbq_1 (jag.none (jag.new jag.rf hnt) hnq_1) (Ne.symm (new_ne hnq_3 ((jv_up_n (Ne.symm (new_ne hnq_1 jv_up_s))).trans ((jv_up_n (new_ne hnq_2 ((jv_up_n (Ne.symm (new_ne hnq_1 jv_up_s))).trans jv_up_s))).trans ((jv_up_n (Ne.symm (new_ne hnq_1 jv_up_s))).trans jv_up_s))))) (new_ne hnq_2 ((jv_up_n (Ne.symm (new_ne hnq_1 jv_up_s))).trans jv_up_s)) (Ne.symm (new_ne hnq_3 ((jv_up_n (Ne.symm (new_ne hnq_2 jv_up_s))).trans jv_up_s)))) (jv_cuP X q1192 q2472 q1193 q1194 q122 q1195 q1366 ⟨by decide, by decide⟩ hd_X14_orders (Nat.le_of_ble_eq_true rfl) (Nat.le_of_ble_eq_true rfl)) hct (show jv_cl[14]? = some (RX17, TX17, 6) from rfl) (by omega) (by omega) rfl (Nat.le_of_ble_eq_true rfl)) (fun M7 h_ => ?_)
        obtain ⟨go7, ⟨ht7, hm7, ho7, hs7, hag7⟩, hk7, hj7⟩ := h_
        refine jv_iinc (v := nI (i + 1)) (lv' := [(3, .int (nI (i + 1))), (0, .ref t), (1, .ref b), (2, .int m_)]) X dX14_init_70 3 rfl (nI_1 _) (by decide) rfl ?_
        refine jv_goto 40 X dX14_init_73 (by decide) ?_
        refine jv_lv (lv' := [(0, .ref t), (1, .ref b), (2, .int m_), (3, .int (nI (i + 1)))]) [1, 2, 3, 0] rfl ?_
        exact jv_widen (by omega) (by omega) (ih_40 (i + 1) go7 M7 (by omega) (fun p hp k hk => by
            by_cases e : p = i
            · subst e; exact hk7 k hk
            · rw [hj7 (6 * p + k) (by have := hW.nv (show p < 6 by omega); omega)]; exact hgo_ p (by omega) k hk) ht7 hm7 ho7 hs7 hag7 (by omega))
  refine jv_lv (lv' := [(0, .ref t), (1, .ref b), (2, .int m_), (3, .int (nI 0))]) [1, 2, 3, 0] rfl ?_
  exact jv_widen (Nat.le_refl _) (Nat.le_refl _) (lp40_4 (S 0 + 1) 0 (fun _ => 0) (jv_up (jv_up (jv_up (jv_up (jv_up (jv_up (jv_up B t (.inr (14, [.null, .null, .null, .int 0, .null, .ref xa]))) q_1 (.inl (G.2.2.1 0, 36, .inl (fun _ => 0)))) t (.inr (14, [.null, .null, .ref q_1, .int 0, .null, .ref xa]))) q_2 (.inl (G.2.2.1 0, 6, .inl (fun _ => 0)))) t (.inr (14, [.ref b, .null, .ref q_1, .int m_, .ref q_2, .ref xa]))) q_3 (.inl (G.2.2.1 0, S 1, .inl gq_3))) t (.inr (14, [.ref b, .ref q_3, .ref q_1, .int m_, .ref q_2, .ref xa]))) (Nat.zero_le _) (fun p hp => absurd hp (Nat.not_lt_zero _)) jv_up_s ((jv_up_n (Ne.symm (new_ne hnq_3 jv_up_s))).trans jv_up_s) ((jv_up_n (Ne.symm (new_ne hnq_1 jv_up_s))).trans ((jv_up_n (new_ne hnq_3 ((jv_up_n (Ne.symm (new_ne hnq_1 jv_up_s))).trans ((jv_up_n (new_ne hnq_2 ((jv_up_n (Ne.symm (new_ne hnq_1 jv_up_s))).trans jv_up_s))).trans ((jv_up_n (Ne.symm (new_ne hnq_1 jv_up_s))).trans jv_up_s))))).trans ((jv_up_n (Ne.symm (new_ne hnq_1 jv_up_s))).trans ((jv_up_n (new_ne hnq_2 ((jv_up_n (Ne.symm (new_ne hnq_1 jv_up_s))).trans jv_up_s))).trans ((jv_up_n (Ne.symm (new_ne hnq_1 jv_up_s))).trans jv_up_s))))) ((jv_up_n (Ne.symm (new_ne hnq_2 jv_up_s))).trans ((jv_up_n (new_ne hnq_3 ((jv_up_n (Ne.symm (new_ne hnq_2 jv_up_s))).trans jv_up_s))).trans ((jv_up_n (Ne.symm (new_ne hnq_2 jv_up_s))).trans jv_up_s))) (jag.put (jag.new (jag.put (jag.new (jag.put (jag.new (jag.new jag.rf hnt) hnq_1) hnt) hnq_2) hnt) hnq_3) hnt) (by omega))
