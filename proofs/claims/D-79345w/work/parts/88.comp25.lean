/-! what hinders -/
set_option maxRecDepth 100000
theorem goo_at {S : Nat → Nat} {t p : Nat} : ∀ {n : Nat}, gooN S t n = true → p < n → v_isState S (nI p) (nI (tol t p)) = true
  | 0, _, h => absurd h (Nat.not_lt_zero _)
  | n + 1, hg, h => by
    cases e : v_isState S (nI p) (nI (tol t p))
    · rw [goo_f e h] at hg; cases hg
    · rfl
theorem tol_6 {S : Nat → Nat} (hW : wfB S) {t p : Nat} (hg : gooN S t (S 0) = true) (hp : p < S 0) : tol t p < 6 := by
  have h := goo_at hg hp
  have h6 := hW.p
  have hn := hW.nv (show p < 6 by omega)
  have h10 : tol t p < 10 := Nat.mod_lt _ (by decide)
  rw [← ist_e hW hp] at h
  by_cases e : nI (tol t p) = nI 5
  · have := (nI_eq (by omega) (by decide)).mp e; omega
  · rw [if_neg e] at h
    have h2 := (v_in_up (by omega) h).1
    rw [nI_clamp (by omega)] at h2
    omega
def tolE (S : Nat → Nat) (t : Nat) : Nat → Nat := fun q => if q < S 0 then tol t q else 0
theorem lastN_S {S : Nat → Nat} {r : Nat} (h0 : 0 < S 0) (h : ∀ q, S 0 ≤ q → lsd S r q = 0) : ∀ n, lastN S r n < S 0
  | 0 => h0
  | n + 1 => by
    unfold lastN
    by_cases e : lsd S r (n + 1) = 0
    · rw [if_pos e]; exact lastN_S h0 h n
    · rw [if_neg e]; exact Nat.lt_of_not_le fun z => e (h _ z)
theorem lst_S {S : Nat → Nat} (hS : wfS S) (hL : wfL S) {r : Nat} (hr : r < S 1) : lst_ S r < S 0 := by
  have h1 := hS.2.1 r hr
  unfold lst_
  by_cases e : v_ofRule S r 0 = 3
  · rw [if_pos e]; exact lastN_S (by omega) (hL r hr e).2 _
  · rw [if_neg e]
    split
    · exact h1.1
    · split
      · exact h1.2
      · exact h1.1
theorem hia_c {S : Nat → Nat} (hS : wfS S) {c c' : Nat → Nat} (h : ∀ q, q < S 0 → c q = c' q) : ∀ d a, a + d ≤ S 2 → hiaN S c d a = hiaN S c' d a
  | 0, _, _ => by unfold hiaN; rw [unr_c hS h]
  | d + 1, a, ha => by unfold hiaN; rw [hia_c hS h d (a + 1) (by omega), h _ (hS.2.2.1 a (by omega))]
theorem hir_c {S : Nat → Nat} (hS : wfS S) (hL : wfL S) {c c' : Nat → Nat} (h : ∀ q, q < S 0 → c q = c' q) : ∀ d r, r + d ≤ S 1 → hirN S c d r = hirN S c' d r
  | 0, _, _ => hia_c hS h _ _ (by omega)
  | d + 1, r, hr => by
    unfold hirN
    rw [hir_c hS hL h d (r + 1) (by omega), hld_c hS.1 (c' := c') (fun q hq => h q (Nat.lt_of_le_of_lt hq (lst_S hS hL (by omega))))]
theorem jse.new {ci : Nat} {xs : List Value} {G : jv_G} {B M : jv_M} {S : Nat → Nat} {b t : Nat} {m_ : Int32} {ma oa sa q : Nat} {e : Nat → Nat} {c : va_E} (h : jse ci xs G B M S b t m_ ma oa sa e) (hq : M q = none) : jse ci xs G B (jv_up M q c) S b t m_ ma oa sa e := by
  obtain ⟨⟨ht, hft, hnt⟩, ⟨gm, hma, hgm⟩, ⟨go, hoa, hgo⟩, ⟨gs, hsa, hgs, hfsa, hnsa⟩, he6, hms, hos, hag⟩ := h
  have u : ∀ {a : Nat} {d : va_E}, M a = some d → jv_up M q c a = some d := fun h => (jv_up_n (new_ne hq h)).trans h
  exact ⟨⟨u ht, hft, hnt⟩, ⟨gm, u hma, hgm⟩, ⟨go, u hoa, hgo⟩, ⟨gs, u hsa, hgs, hfsa, hnsa⟩, he6, hms, hos, jag.new hag hq⟩
theorem hd_X17_init : jv_dd yX17_init 2 := by unfold jv_dd; decide +kernel
set_option maxHeartbeats 4000000 in
theorem c_X17_init {l : Launch} {G : jv_G}  {σ : jk_A} (hG : jk_G G σ) {B : jv_M} {τ : Nat → Nat} {b t : Nat} {S : Nat → Nat} (hB : jbd G B τ b S) (hS : wfS S) (hL : wfL S) (hPP : wfP S) (hV : wfV S) (hnt : B t = none) (hft : G.1 ≤ t) {xa pa ip rp : Nat} {sv : Option Nat} {eA_ fA_ : Int32} (hx : B xa = some (.inr (0, [.ref b, .ref pa, .ref ip, .ref rp, va_rf sv, .int eA_, .int fA_]))) (t_ : Nat) (hgo_ : gooN S t_ (S 0) = true) (ht31 : t_ < 2 ^ 31) : jv_Ct G l yX17_init cX17_init 4 (none) 11 333 1092 326 [.ref t, .ref xa, .int (nI t_)] (jv_up B t (.inr (14, [.null, .null, .null, .int 0, .null, .null]))) (jv_qv G (fun M' => ∃ ma oa sa, jse 14 [.ref xa] G B M' S b t (nI (2 ^ S 1 - 1)) ma oa sa (tolE S t_))) := by
  refine jv_Ct.of (lv := [(0, .ref t), (1, .ref xa), (2, .int (nI t_))]) (by decide) (Nat.le_of_ble_eq_true rfl) rfl ?_
  intro x Q_ hl_ hQ X
  subst hl_
  have hB0 := hB
  have hB_ := hB
  obtain ⟨lp, lr, la, P, R, A, hb, hfb, ⟨⟨mp_, ep, fp, hlp, hep, hn6, hfp, -, -, -⟩, hP⟩, ⟨⟨mr_, er, fr_, hlr, her, hn30, hfr_, -, -, -⟩, hR⟩, ⟨ma_, ea, fa, hla, hea, hn6a, hfa, -, -, -⟩, hA⟩ := id hB0
  have hW := hS.1
  have hp0 := hW.p
  have hr0 := hW.r
  have ha0 := hW.a
  refine jv_aload_n X dX17_init_0 0 rfl ?_
  refine jv_aload_n X dX17_init_1 1 rfl ?_
  refine jv_putF (fs' := [.null, .null, .null, .int 0, .null, .ref xa]) X dX17_init_2 jv_up_s hft (T := TX17) (N := 6) (C := RX17) rfl in_X17 tyX17 tyX17_ok nmX17 5 (by decide) q1374 rfl rfl rfl rfl rfl rfl rfl (show 5 < 6 from by decide) rfl ?_
  rw [jv_up_up]
  refine jv_aload_n X dX17_init_5 0 rfl ?_
  refine jv_aload_n X dX17_init_6 1 rfl ?_
  refine jv_getN X dX17_init_7 ((jag.new jag.rf hnt).c hx) (T := TX0) (N := 7) (C := RX0) rfl in_X0 0 (by decide) q256 rfl rfl ?_
  refine jv_aload_n X dX17_init_10 1 rfl ?_
  refine jv_ask (jv_runVN (As := []) (rest := [.ref b, .ref t]) X dX17_init_11 (c_X0_allRules hG ((jag.new jag.rf hnt).c hx) (hB_.sub (jag.new jag.rf hnt) hp0) hS hL hPP) (lw_meth q1180) q1370 q90 q1179 qs26 hd_X0_allRules ((jag.new jag.rf hnt).c hx) rfl (Nat.le_of_ble_eq_true rfl) (Nat.le_of_ble_eq_true rfl) (Nat.le_of_ble_eq_true rfl) (Nat.le_of_ble_eq_true rfl) rfl (Nat.le_of_ble_eq_true rfl)) ?_
  refine jv_callv (jv_runI (As := [.ref b, .int (nI (2 ^ S 1 - 1))]) (rest := []) X dX17_init_14 (c_X14_init_X17 hG hB hS hL hV hnt hft (nI (2 ^ S 1 - 1))) (lw_meth q1186) q122 q1371 q1185 rfl hd_X14_init (Nat.le_of_ble_eq_true rfl) (Nat.le_of_ble_eq_true rfl) (by omega) (by omega) rfl (Nat.le_of_ble_eq_true rfl)) (fun M1 h_ => ?_)
  obtain ⟨ma, oa, sa, hse⟩ := h_
  obtain ⟨⟨ht1, hft1, hnt1⟩, ⟨gm1, hma1, hgm1⟩, ⟨go1, hoa1, hgo1⟩, ⟨gs1, hsa1, hgs1, hfsa1, hnsa1⟩, he61, hms1, hos1, hag1⟩ := id hse
  refine jv_iconst (v := nI 0) X dX17_init_17 rfl ?_
  refine jv_istore_n (lv' := [(3, .int (nI 0)), (0, .ref t), (1, .ref xa), (2, .int (nI t_))]) X dX17_init_18 rfl (by decide) rfl ?_
  have lp19_2 : ∀ (d_19 : Nat) (i : Nat) (gs_ : Nat → Int32) (Mi : jv_M), i ≤ S 0 → (∀ q, q < 6 → gs_ q = nI (if q < i then tol t_ q else 0)) → Mi t = some (.inr (14, [.ref b, .ref ma, .ref oa, .int (nI (2 ^ S 1 - 1)), .ref sa, .ref xa])) → Mi ma = some (.inl (G.2.2.1 0, S 1, .inl gm1)) → Mi oa = some (.inl (G.2.2.1 0, 36, .inl go1)) → Mi sa = some (.inl (G.2.2.1 0, 6, .inl gs_)) → jag B Mi → S 0 - i < d_19 → jv_J x G 4 Q_ Mi 333 1092 19 [(0, .ref t), (1, .ref xa), (2, .int (nI t_)), (3, .int (nI i))] [] := by
    intro d_19
    induction d_19 with
    | zero => intro i gs_ Mi hi hgs_ hct hcm hco hcs hag_Mi hm_19; exact absurd hm_19 (Nat.not_lt_zero _)
    | succ d_19 ih_19 =>
      intro i gs_ Mi hi hgs_ hct hcm hco hcs hag_Mi hm_19
      refine jv_iload_n X dX17_init_19 3 rfl ?_
      refine jv_aload_n X dX17_init_20 1 rfl ?_
      refine jv_getN X dX17_init_21 (hag_Mi.c hx) (T := TX0) (N := 7) (C := RX0) rfl in_X0 0 (by decide) q256 rfl rfl ?_
      refine jv_getN X dX17_init_24 (hag_Mi.c hb) (T := TX1) (N := 3) (C := RX1) rfl in_X1 0 (by decide) q180 rfl rfl ?_
      refine jv_ask (jv_runV (As := []) (rest := [.int (nI i)]) X dX17_init_27 (c_J2_size (hag_Mi.c hlp)) (lw_V q1372 q284 q285 q94 q286) hd_J2_size (hag_Mi.c hlp) rfl (Nat.le_of_ble_eq_true rfl) (Nat.le_of_ble_eq_true rfl) (by omega) (by omega) rfl (Nat.le_of_ble_eq_true rfl)) ?_
      refine jn_icmp_ge 55 X dX17_init_30 (by decide) (by omega) (by omega) (fun c30 => ?_) (fun c30 => ?_)
      · skip
        exact jv_vret X dX17_init_55 hQ (Nat.le_of_ble_eq_true rfl) (Nat.le_of_ble_eq_true rfl) ⟨ma, oa, sa, ⟨hct, hft, hnt⟩, ⟨_, hcm, hgm1⟩, ⟨_, hco, hgo1⟩, ⟨gs_, hcs, (fun q hq => by rw [hgs_ q hq]; unfold tolE; rw [show i = S 0 by omega]), hfsa1, hnsa1⟩, (fun q _ => by unfold tolE; split; exact tol_6 hS.1 hgo_ (by assumption); decide), hms1, hos1, hag_Mi⟩
      · skip
        have htp_ := ten_b i (by omega)
        have htz_ := ten_p i
        refine jv_aload_n X dX17_init_33 0 rfl ?_
        refine jv_getS X dX17_init_34 hct (T := TX17) (N := 6) (C := RX17) rfl in_X17 4 (by decide) q1203 q1204 rfl ?_
        refine jv_iload_n X dX17_init_37 3 rfl ?_
        refine jv_iload_n X dX17_init_38 2 rfl ?_
        refine jv_getsN (v := .ref (σ.2.2 0)) X dX17_init_39 (hG.f X).tens q1373 ?_
        refine jv_iload_n X dX17_init_42 3 rfl ?_
        refine jv_tens X dX17_init_43 hG (show i < 7 from (by omega)) ?_
        refine jv_idiv (w := nI (t_ / (10 ^ i))) X dX17_init_44 (ni_nz (by omega) (by omega)) (pk_div ht31 (by omega) (by omega)) ?_
        refine jv_bipush (v := nI 10) X dX17_init_45 rfl ?_
        refine jv_irem (w := nI ((t_ / (10 ^ i)) % 10)) X dX17_init_47 (ni_nz (by decide) (by decide)) (pk_rem (Nat.lt_of_le_of_lt (Nat.div_le_self _ _) ht31) (by decide) (by decide)) ?_
        refine jv_iast (g := upd gs_ i (nI ((t_ / (10 ^ i)) % 10))) X dX17_init_48 hcs hfsa1 (jn_in (by omega) (by decide)) (by rw [nI_clamp (by omega)]) ?_
        refine jv_iinc (v := nI (i + 1)) (lv' := [(3, .int (nI (i + 1))), (0, .ref t), (1, .ref xa), (2, .int (nI t_))]) X dX17_init_49 3 rfl (nI_1 _) (by decide) rfl ?_
        refine jv_goto 19 X dX17_init_52 (by decide) ?_
        refine jv_lv (lv' := [(0, .ref t), (1, .ref xa), (2, .int (nI t_)), (3, .int (nI (i + 1)))]) [1, 2, 3, 0] rfl ?_
        exact ih_19 (i + 1) (upd gs_ i (nI (t_ / 10 ^ i % 10))) (jv_up Mi sa (.inl (G.2.2.1 0, 6, .inl (upd gs_ i (nI ((t_ / (10 ^ i)) % 10)))))) (by omega) (fun q hq => by
            by_cases e : q = i
            · rw [e, if_pos (by omega)]; simp only [upd, if_pos]; rfl
            · simp only [upd, if_neg e]; rw [hgs_ q hq]; congr 1; by_cases e2 : q < i <;> simp [e2] <;> omega) ((jv_up_n (ck_ne hct hcs rfl)).trans hct) ((jv_up_n hms1).trans hcm) ((jv_up_n hos1).trans hco) jv_up_s (jag.put hag_Mi hnsa1) (by omega)
  refine jv_lv (lv' := [(0, .ref t), (1, .ref xa), (2, .int (nI t_)), (3, .int (nI 0))]) [1, 2, 3, 0] rfl ?_
  exact lp19_2 (S 0 + 1) 0 gs1 M1 (Nat.zero_le _) (fun q hq => by rw [hgs1 q hq, if_neg (Nat.not_lt_zero _)]) ht1 hma1 hoa1 hsa1 hag1 (by omega)
theorem hd_X17_hinders : jv_dd yX17_hinders 0 := by unfold jv_dd; decide +kernel
set_option maxHeartbeats 4000000 in
theorem c_X17_hinders {l : Launch} {G : jv_G} {M : jv_M} {σ : jk_A} (hG : jk_G G σ) {B : jv_M} {τ : Nat → Nat} {b t ma oa sa : Nat} {m_ : Int32} {xa : Nat} {e : Nat → Nat} {S : Nat → Nat} (hB : jbd G B τ b S) (hS : wfS S) (hL : wfL S) (hPP : wfP S) (hse : jse 14 [.ref xa] G B M S b t m_ ma oa sa e) {pa ip rp : Nat} {sv : Option Nat} {eA_ fA_ : Int32} (hx : B xa = some (.inr (0, [.ref b, .ref pa, .ref ip, .ref rp, va_rf sv, .int eA_, .int fA_])))  (hm_ : mEq S m_ EV) : jv_Ct G l yX17_hinders cX17_hinders 4 (some .int) 10 301 930 308 [.ref t] M (jv_qi G (jv_pi (hirN S e (S 1) 0) M)) := by
  refine jv_Ct.of (lv := [(0, .ref t)]) (by decide) (Nat.le_of_ble_eq_true rfl) rfl ?_
  intro x Q_ hl_ hQ X
  subst hl_
  have hB0 := hB
  obtain ⟨⟨ht, hft, hnt⟩, ⟨gm, hma, hgm⟩, ⟨go, hoa, hgo⟩, ⟨gs, hsa, hgs, hfsa, hnsa⟩, he6, hms, hos, hag⟩ := id hse
  replace hB := hB.sub hag hS.1.p
  have hB_ := hB
  obtain ⟨lp, lr, la, P, R, A, hb, hfb, ⟨⟨mp_, ep, fp, hlp, hep, hn6, hfp, -, -, -⟩, hP⟩, ⟨⟨mr_, er, fr_, hlr, her, hn30, hfr_, -, -, -⟩, hR⟩, ⟨ma_, ea, fa, hla, hea, hn6a, hfa, -, -, -⟩, hA⟩ := hB
  have hW := hS.1
  have hp0 := hW.p
  have hr0 := hW.r
  have ha0 := hW.a
  have he64_ : ∀ p, p < 6 → e p < 64 := fun p hp => Nat.lt_trans (he6 p hp) (by decide)
  refine jv_aload_n X dX17_hinders_0 0 rfl ?_
  refine jv_get X dX17_hinders_1 ht (T := TX17) (N := 6) (C := RX17) rfl in_X17 5 (by decide) q1374 rfl rfl ?_
  refine jv_getN X dX17_hinders_4 (hag.c hx) (T := TX0) (N := 7) (C := RX0) rfl in_X0 0 (by decide) q256 rfl rfl ?_
  refine jv_callr (jv_runV (As := []) (rest := []) X dX17_hinders_7 (c_X1_masks hG hB_ hS hL) (lw_V q1387 q863 q864 q91 q865) hd_X1_masks hb rfl (Nat.le_of_ble_eq_true rfl) (Nat.le_of_ble_eq_true rfl) (by omega) (by omega) rfl (Nat.le_of_ble_eq_true rfl)) (fun q_1 M_ h_ => ?_)
  obtain ⟨hnq_1, hbq_1, gq_1, hm_, hgq_1⟩ := h_
  rw [hm_]
  clear hm_
  refine jv_astore_n (lv' := [(1, .ref q_1), (0, .ref t)]) X dX17_hinders_10 rfl (by decide) rfl ?_
  refine jv_iconst (v := nI 0) X dX17_hinders_11 rfl ?_
  refine jv_istore_n (lv' := [(2, .int (nI 0)), (1, .ref q_1), (0, .ref t)]) X dX17_hinders_12 rfl (by decide) rfl ?_
  have lp13_2 : ∀ (d_13 : Nat) (r : Nat), r ≤ S 1 → hirN S e (S 1) 0 = hirN S e (S 1 - r) r → S 1 - r < d_13 → jv_J x G 4 Q_ (jv_up M q_1 (.inl (G.2.2.1 0, S 1, .inl gq_1))) 301 930 13 [(0, .ref t), (1, .ref q_1), (2, .int (nI r))] [] := by
    intro d_13
    induction d_13 with
    | zero => intro r hr hw1 hm_13; exact absurd hm_13 (Nat.not_lt_zero _)
    | succ d_13 ih_13 =>
      intro r hr hw1 hm_13
      refine jv_iload_n X dX17_hinders_13 2 rfl ?_
      refine jv_aload_n X dX17_hinders_14 1 rfl ?_
      refine jv_alen (t0 := 0) (v := nI (S 1)) X dX17_hinders_15 jv_up_s rfl rfl ?_
      refine jn_icmp_ge 57 X dX17_hinders_16 (by decide) (by omega) (by omega) (fun c16 => ?_) (fun c16 => ?_)
      · skip
        refine jv_iconst (v := nI 0) X dX17_hinders_57 rfl ?_
        refine jv_istore_n (lv' := [(2, .int (nI 0)), (0, .ref t), (1, .ref q_1)]) X dX17_hinders_58 rfl (by decide) rfl ?_
        have lp59_3 : ∀ (d_59 : Nat) (a : Nat), a ≤ S 2 → hirN S e (S 1) 0 = hiaN S e (S 2 - a) a → S 2 - a < d_59 → jv_J x G 4 Q_ (jv_up M q_1 (.inl (G.2.2.1 0, S 1, .inl gq_1))) 301 930 59 [(0, .ref t), (1, .ref q_1), (2, .int (nI a))] [] := by
          intro d_59
          induction d_59 with
          | zero => intro a ha hw2 hm_59; exact absurd hm_59 (Nat.not_lt_zero _)
          | succ d_59 ih_59 =>
            intro a ha hw2 hm_59
            refine jv_iload_n X dX17_hinders_59 2 rfl ?_
            refine jv_aload_n X dX17_hinders_60 0 rfl ?_
            refine jv_get X dX17_hinders_61 ((jag.new jag.rf hnq_1).c ht) (T := TX17) (N := 6) (C := RX17) rfl in_X17 5 (by decide) q1374 rfl rfl ?_
            refine jv_getN X dX17_hinders_64 ((jag.new jag.rf hnq_1).c (hag.c hx)) (T := TX0) (N := 7) (C := RX0) rfl in_X0 0 (by decide) q256 rfl rfl ?_
            refine jv_getN X dX17_hinders_67 ((jag.new jag.rf hnq_1).c hb) (T := TX1) (N := 3) (C := RX1) rfl in_X1 2 (by decide) q190 rfl rfl ?_
            refine jv_ask (jv_runV (As := []) (rest := [.int (nI a)]) X dX17_hinders_70 (c_J2_size ((jag.new jag.rf hnq_1).c hla)) (lw_V q1372 q284 q285 q94 q286) hd_J2_size ((jag.new jag.rf hnq_1).c hla) rfl (Nat.le_of_ble_eq_true rfl) (Nat.le_of_ble_eq_true rfl) (by omega) (by omega) rfl (Nat.le_of_ble_eq_true rfl)) ?_
            refine jn_icmp_ge 135 X dX17_hinders_73 (by decide) (by omega) (by omega) (fun c73 => ?_) (fun c73 => ?_)
            · skip
              refine jv_aload_n X dX17_hinders_135 0 rfl ?_
              refine jv_ask (jv_runU (As := []) (rest := []) X dX17_hinders_136 (c_X14_reached_X17 hG hB0 hS hL hPP (hse.new hnq_1)) (jv_cuI X (lw_U (x := yA_Look_reached) q1392 q1393 q1395 q1237 q122 q1243) rfl ⟨by decide, by decide⟩ hd_yA_Look_reached (Nat.le_of_ble_eq_true rfl) (Nat.le_of_ble_eq_true rfl)) ((jag.new jag.rf hnq_1).c ht) (show jv_cl[14]? = some (RX17, TX17, 6) from rfl) (Nat.le_of_ble_eq_true rfl) (Nat.le_of_ble_eq_true rfl) rfl (Nat.le_of_ble_eq_true rfl)) ?_
              have hrl_ := rchT_lt hW (c := e) (m := m_) (t := S 0 + 1)
              have hu_ : hirN S e (S 1) 0 = (if unr S e m_ = (-1) then (-5) else nI 200 + unr S e m_) := hw2.trans (by rw [show S 2 - a = 0 by omega, unr_m hm_]; rfl)
              refine jv_istore_n (lv' := [(2, .int (nI (rchT S e m_ (S 0 + 1)))), (0, .ref t), (1, .ref q_1)]) X dX17_hinders_139 rfl (by decide) rfl ?_
              refine jv_iconst (v := nI 0) X dX17_hinders_140 rfl ?_
              refine jv_istore_n (lv' := [(3, .int (nI 0)), (2, .int (nI (rchT S e m_ (S 0 + 1)))), (0, .ref t), (1, .ref q_1)]) X dX17_hinders_141 rfl (by decide) rfl ?_
              have lp142_4 : ∀ (d_142 : Nat) (p : Nat), p ≤ S 0 → unr S e m_ = unrN e (rchT S e m_ (S 0 + 1)) (S 0 - p) p → S 0 - p < d_142 → jv_J x G 4 Q_ (jv_up M q_1 (.inl (G.2.2.1 0, S 1, .inl gq_1))) 301 930 142 [(0, .ref t), (1, .ref q_1), (2, .int (nI (rchT S e m_ (S 0 + 1)))), (3, .int (nI p))] [] := by
                intro d_142
                induction d_142 with
                | zero => intro p hp hw3 hm_142; exact absurd hm_142 (Nat.not_lt_zero _)
                | succ d_142 ih_142 =>
                  intro p hp hw3 hm_142
                  refine jv_iload_n X dX17_hinders_142 3 rfl ?_
                  refine jv_aload_n X dX17_hinders_143 0 rfl ?_
                  refine jv_get X dX17_hinders_144 ((jag.new jag.rf hnq_1).c ht) (T := TX17) (N := 6) (C := RX17) rfl in_X17 5 (by decide) q1374 rfl rfl ?_
                  refine jv_getN X dX17_hinders_147 ((jag.new jag.rf hnq_1).c (hag.c hx)) (T := TX0) (N := 7) (C := RX0) rfl in_X0 0 (by decide) q256 rfl rfl ?_
                  refine jv_getN X dX17_hinders_150 ((jag.new jag.rf hnq_1).c hb) (T := TX1) (N := 3) (C := RX1) rfl in_X1 0 (by decide) q180 rfl rfl ?_
                  refine jv_ask (jv_runV (As := []) (rest := [.int (nI p)]) X dX17_hinders_153 (c_J2_size ((jag.new jag.rf hnq_1).c hlp)) (lw_V q1372 q284 q285 q94 q286) hd_J2_size ((jag.new jag.rf hnq_1).c hlp) rfl (Nat.le_of_ble_eq_true rfl) (Nat.le_of_ble_eq_true rfl) (by omega) (by omega) rfl (Nat.le_of_ble_eq_true rfl)) ?_
                  refine jn_icmp_ge 189 X dX17_hinders_156 (by decide) (by omega) (by omega) (fun c156 => ?_) (fun c156 => ?_)
                  · skip
                    refine jv_bipush (v := (-5)) X dX17_hinders_189 rfl ?_
                    refine jv_fewer (jag.few (jag.new jag.rf hnq_1)) ?_
                    exact jv_iret (v := (-5)) X dX17_hinders_191 rfl hQ (Nat.le_of_ble_eq_true rfl) (Nat.le_of_ble_eq_true rfl) ⟨(hu_.trans (by rw [hw3, show S 0 - p = 0 by omega]; rfl)).symm, rfl⟩
                  · skip
                    refine jv_aload_n X dX17_hinders_159 0 rfl ?_
                    refine jv_getS X dX17_hinders_160 ((jag.new jag.rf hnq_1).c ht) (T := TX17) (N := 6) (C := RX17) rfl in_X17 4 (by decide) q1203 q1204 rfl ?_
                    refine jv_iload_n X dX17_hinders_163 3 rfl ?_
                    refine jv_iald (v := nI (e p)) X dX17_hinders_164 ((jag.new jag.rf hnq_1).c hsa) (jn_in (by omega) (by decide)) (by rw [nI_clamp (by omega)]; exact (hgs _ (by omega))) ?_
                    refine jv_iconst (v := nI 5) X dX17_hinders_165 rfl ?_
                    refine jn_icmp_eq 183 X dX17_hinders_166 (by decide) (Nat.lt_trans (he6 _ (by omega)) (by decide)) (by decide) (fun c166 => ?_) (fun c166 => ?_)
                    · skip
                      refine jv_iinc (v := nI (p + 1)) (lv' := [(3, .int (nI (p + 1))), (0, .ref t), (1, .ref q_1), (2, .int (nI (rchT S e m_ (S 0 + 1))))]) X dX17_hinders_183 3 rfl (nI_1 _) (by decide) rfl ?_
                      refine jv_goto 142 X dX17_hinders_186 (by decide) ?_
                      refine jv_lv (lv' := [(0, .ref t), (1, .ref q_1), (2, .int (nI (rchT S e m_ (S 0 + 1)))), (3, .int (nI (p + 1)))]) [1, 2, 3, 0] rfl ?_
                      exact ih_142 (p + 1) (by omega) (by rw [hw3, show S 0 - p = (S 0 - (p + 1)) + 1 by omega, unrN, if_pos c166]) (by omega)
                    · skip
                      refine jv_iload_n X dX17_hinders_169 2 rfl ?_
                      refine jv_iload_n X dX17_hinders_170 3 rfl ?_
                      refine jv_ask (jv_runSN (As := [.int (nI (rchT S e m_ (S 0 + 1))), .int (nI p)]) (rest := []) X dX17_hinders_171 (c_X0_has (nI (rchT S e m_ (S 0 + 1))) (nI p)) (lw_meth q678) q1396 q90 q677 hd_X0_has (Nat.le_of_ble_eq_true rfl) (Nat.le_of_ble_eq_true rfl) (by omega) (by omega) rfl (Nat.le_of_ble_eq_true rfl)) ?_
                      refine jb_if_ne 183 X dX17_hinders_174 (by decide) (fun c174 => ?_) (fun c174 => ?_)
                      · skip
                        refine jv_iinc (v := nI (p + 1)) (lv' := [(3, .int (nI (p + 1))), (0, .ref t), (1, .ref q_1), (2, .int (nI (rchT S e m_ (S 0 + 1))))]) X dX17_hinders_183 3 rfl (nI_1 _) (by decide) rfl ?_
                        refine jv_goto 142 X dX17_hinders_186 (by decide) ?_
                        refine jv_lv (lv' := [(0, .ref t), (1, .ref q_1), (2, .int (nI (rchT S e m_ (S 0 + 1)))), (3, .int (nI (p + 1)))]) [1, 2, 3, 0] rfl ?_
                        exact ih_142 (p + 1) (by omega) (by rw [hw3, show S 0 - p = (S 0 - (p + 1)) + 1 by omega, unrN, if_neg c166, if_neg (fun z => by have h := hasI_b (u := rchT S e m_ (S 0 + 1)) (k := p) (by omega) (by omega); rw [c174, if_neg (by rw [z]; decide)] at h; cases h)]) (by omega)
                      · skip
                        refine jv_sipush (v := nI 200) X dX17_hinders_177 rfl ?_
                        refine jv_iload_n X dX17_hinders_180 3 rfl ?_
                        refine jv_iadd (w := nI (200 + p)) X dX17_hinders_181 (nI_add _ _) ?_
                        refine jv_fewer (jag.few (jag.new jag.rf hnq_1)) ?_
                        exact jv_iret (v := nI (200 + p)) X dX17_hinders_182 rfl hQ (Nat.le_of_ble_eq_true rfl) (Nat.le_of_ble_eq_true rfl) ⟨(by have hv_ : unr S e m_ = nI p := (by rw [hw3, show S 0 - p = (S 0 - (p + 1)) + 1 by omega, unrN, if_neg c166, if_pos (by have h := hasI_b (u := rchT S e m_ (S 0 + 1)) (k := p) (by omega) (by omega); rw [c174] at h; exact Classical.byContradiction fun z => by rw [if_pos (by rw [Nat.and_one_is_mod] at z ⊢; omega)] at h; cases h)]); rw [hu_, hv_, if_neg (nI_ne_m1 (by omega)), nI_add]), rfl⟩
              refine jv_lv (lv' := [(0, .ref t), (1, .ref q_1), (2, .int (nI (rchT S e m_ (S 0 + 1)))), (3, .int (nI 0))]) [2, 3, 1, 0] rfl ?_
              exact lp142_4 (S 0 + 1) 0 (Nat.zero_le _) rfl (by omega)
            · skip
              have hap_ := hW.a0 (show a < 6 by omega)
              have hat_ := hW.a1 (show a < 6 by omega)
              refine jv_aload_n X dX17_hinders_76 0 rfl ?_
              refine jv_getS X dX17_hinders_77 ((jag.new jag.rf hnq_1).c ht) (T := TX17) (N := 6) (C := RX17) rfl in_X17 4 (by decide) q1203 q1204 rfl ?_
              refine jv_aload_n X dX17_hinders_80 0 rfl ?_
              refine jv_get X dX17_hinders_81 ((jag.new jag.rf hnq_1).c ht) (T := TX17) (N := 6) (C := RX17) rfl in_X17 5 (by decide) q1374 rfl rfl ?_
              refine jv_getN X dX17_hinders_84 ((jag.new jag.rf hnq_1).c (hag.c hx)) (T := TX0) (N := 7) (C := RX0) rfl in_X0 0 (by decide) q256 rfl rfl ?_
              refine jv_getN X dX17_hinders_87 ((jag.new jag.rf hnq_1).c hb) (T := TX1) (N := 3) (C := RX1) rfl in_X1 2 (by decide) q190 rfl rfl ?_
              refine jv_iload_n X dX17_hinders_90 2 rfl ?_
              refine jv_callr (jv_runV (As := [.int (nI a)]) (rest := [.ref sa]) X dX17_hinders_91 (c_J2_get ((jag.new jag.rf hnq_1).c hla) ((jag.new jag.rf hnq_1).c hea) a (A a) (by omega) (by omega) (by omega) (by rw [hfa _ (by omega)]; rfl)) (lw_V q1388 q533 q534 q94 q535) hd_J2_get ((jag.new jag.rf hnq_1).c hla) rfl (Nat.le_of_ble_eq_true rfl) (Nat.le_of_ble_eq_true rfl) (by omega) (by omega) rfl (Nat.le_of_ble_eq_true rfl)) (fun rr_ M_ h_ => ?_)
              obtain ⟨hr_, hm_⟩ := h_
              rw [hr_, hm_]
              clear hr_ hm_
              refine jv_castS X dX17_hinders_94 ((jag.new jag.rf hnq_1).c (hA a (by omega)).2) (r := (RX12, TX12, 2)) rfl q1391 ?_
              refine jv_getN X dX17_hinders_97 ((jag.new jag.rf hnq_1).c (hA a (by omega)).2) (T := TX12) (N := 2) (C := RX12) rfl in_X12 0 (by decide) q1113 rfl rfl ?_
              refine jv_iald (v := nI (e (v_asm S a 0))) X dX17_hinders_100 ((jag.new jag.rf hnq_1).c hsa) (jn_in (by omega) (by decide)) (by rw [nI_clamp (by omega)]; exact (hgs _ (by omega))) ?_
              refine jv_aload_n X dX17_hinders_101 0 rfl ?_
              refine jv_get X dX17_hinders_102 ((jag.new jag.rf hnq_1).c ht) (T := TX17) (N := 6) (C := RX17) rfl in_X17 5 (by decide) q1374 rfl rfl ?_
              refine jv_getN X dX17_hinders_105 ((jag.new jag.rf hnq_1).c (hag.c hx)) (T := TX0) (N := 7) (C := RX0) rfl in_X0 0 (by decide) q256 rfl rfl ?_
              refine jv_getN X dX17_hinders_108 ((jag.new jag.rf hnq_1).c hb) (T := TX1) (N := 3) (C := RX1) rfl in_X1 2 (by decide) q190 rfl rfl ?_
              refine jv_iload_n X dX17_hinders_111 2 rfl ?_
              refine jv_callr (jv_runV (As := [.int (nI a)]) (rest := [.int (nI (e (v_asm S a 0)))]) X dX17_hinders_112 (c_J2_get ((jag.new jag.rf hnq_1).c hla) ((jag.new jag.rf hnq_1).c hea) a (A a) (by omega) (by omega) (by omega) (by rw [hfa _ (by omega)]; rfl)) (lw_V q1388 q533 q534 q94 q535) hd_J2_get ((jag.new jag.rf hnq_1).c hla) rfl (Nat.le_of_ble_eq_true rfl) (Nat.le_of_ble_eq_true rfl) (by omega) (by omega) rfl (Nat.le_of_ble_eq_true rfl)) (fun rr_ M_ h_ => ?_)
              obtain ⟨hr_, hm_⟩ := h_
              rw [hr_, hm_]
              clear hr_ hm_
              refine jv_castS X dX17_hinders_115 ((jag.new jag.rf hnq_1).c (hA a (by omega)).2) (r := (RX12, TX12, 2)) rfl q1391 ?_
              refine jv_getN X dX17_hinders_118 ((jag.new jag.rf hnq_1).c (hA a (by omega)).2) (T := TX12) (N := 2) (C := RX12) rfl in_X12 1 (by decide) q1119 rfl rfl ?_
              refine jn_icmp_eq 129 X dX17_hinders_121 (by decide) (Nat.lt_trans (he6 _ (by omega)) (by decide)) (by omega) (fun c121 => ?_) (fun c121 => ?_)
              · skip
                refine jv_iinc (v := nI (a + 1)) (lv' := [(2, .int (nI (a + 1))), (0, .ref t), (1, .ref q_1)]) X dX17_hinders_129 2 rfl (nI_1 _) (by decide) rfl ?_
                refine jv_goto 59 X dX17_hinders_132 (by decide) ?_
                refine jv_lv (lv' := [(0, .ref t), (1, .ref q_1), (2, .int (nI (a + 1)))]) [1, 2, 0] rfl ?_
                exact ih_59 (a + 1) (by omega) (hw2.trans (by rw [hiaN_s (by omega), if_pos c121]; rfl)) (by omega)
              · skip
                refine jv_bipush (v := nI 100) X dX17_hinders_124 rfl ?_
                refine jv_iload_n X dX17_hinders_126 2 rfl ?_
                refine jv_iadd (w := nI (100 + a)) X dX17_hinders_127 (nI_add _ _) ?_
                refine jv_fewer (jag.few (jag.new jag.rf hnq_1)) ?_
                exact jv_iret (v := nI (100 + a)) X dX17_hinders_128 rfl hQ (Nat.le_of_ble_eq_true rfl) (Nat.le_of_ble_eq_true rfl) ⟨(hw2.trans (by rw [hiaN_s (by omega), if_neg (fun z => c121 z)])).symm, rfl⟩
        refine jv_lv (lv' := [(0, .ref t), (1, .ref q_1), (2, .int (nI 0))]) [1, 2, 0] rfl ?_
        exact lp59_3 (S 2 + 1) 0 (Nat.zero_le _) (hw1.trans (by rw [show S 1 - r = 0 by omega]; rfl)) (by omega)
      · skip
        refine jv_aload_n X dX17_hinders_19 0 rfl ?_
        refine jv_get X dX17_hinders_20 ((jag.new jag.rf hnq_1).c ht) (T := TX17) (N := 6) (C := RX17) rfl in_X17 5 (by decide) q1374 rfl rfl ?_
        refine jv_getN X dX17_hinders_23 ((jag.new jag.rf hnq_1).c (hag.c hx)) (T := TX0) (N := 7) (C := RX0) rfl in_X0 0 (by decide) q256 rfl rfl ?_
        refine jv_getN X dX17_hinders_26 ((jag.new jag.rf hnq_1).c hb) (T := TX1) (N := 3) (C := RX1) rfl in_X1 1 (by decide) q185 rfl rfl ?_
        refine jv_iload_n X dX17_hinders_29 2 rfl ?_
        refine jv_callr (jv_runV (As := [.int (nI r)]) (rest := []) X dX17_hinders_30 (c_J2_get ((jag.new jag.rf hnq_1).c hlr) ((jag.new jag.rf hnq_1).c her) r (R r) (by omega) (by omega) (by omega) (by rw [hfr_ _ (by omega)]; rfl)) (lw_V q1388 q533 q534 q94 q535) hd_J2_get ((jag.new jag.rf hnq_1).c hlr) rfl (Nat.le_of_ble_eq_true rfl) (Nat.le_of_ble_eq_true rfl) (by omega) (by omega) rfl (Nat.le_of_ble_eq_true rfl)) (fun rr_ M_ h_ => ?_)
        obtain ⟨hr_, hm_⟩ := h_
        rw [hr_, hm_]
        clear hr_ hm_
        refine jr_cast X dX17_hinders_33 q1389 ((hR r (by omega)).sub (jag.new jag.rf hnq_1)) ?_
        refine jv_aload_n X dX17_hinders_36 1 rfl ?_
        refine jv_iload_n X dX17_hinders_37 2 rfl ?_
        refine jv_iald (v := nI (msk S r)) X dX17_hinders_38 jv_up_s (jn_in (by omega) (by omega)) (by rw [nI_clamp (by omega)]; exact (hgq_1 _ (by omega))) ?_
        refine jv_aload_n X dX17_hinders_39 0 rfl ?_
        refine jv_getS X dX17_hinders_40 ((jag.new jag.rf hnq_1).c ht) (T := TX17) (N := 6) (C := RX17) rfl in_X17 4 (by decide) q1203 q1204 rfl ?_
        refine jv_ask (jr_isKept (rest := []) X dX17_hinders_43 q1390 ((hR r (by omega)).sub (jag.new jag.rf hnq_1)) hW (by omega) hL (by omega) ((jag.new jag.rf hnq_1).c hsa) hgs he64_ he6 (Nat.le_of_ble_eq_true rfl) (Nat.le_of_ble_eq_true rfl) (Nat.le_of_ble_eq_true rfl) (Nat.le_of_ble_eq_true rfl) (Nat.le_of_ble_eq_true rfl)) ?_
        refine jb_if_ne 51 X dX17_hinders_46 (by decide) (fun c46 => ?_) (fun c46 => ?_)
        · skip
          refine jv_iinc (v := nI (r + 1)) (lv' := [(2, .int (nI (r + 1))), (0, .ref t), (1, .ref q_1)]) X dX17_hinders_51 2 rfl (nI_1 _) (by decide) rfl ?_
          refine jv_goto 13 X dX17_hinders_54 (by decide) ?_
          refine jv_lv (lv' := [(0, .ref t), (1, .ref q_1), (2, .int (nI (r + 1)))]) [1, 2, 0] rfl ?_
          exact ih_13 (r + 1) (by omega) (hw1.trans (by rw [hirN_s (by omega), if_pos c46]; rfl)) (by omega)
        · skip
          refine jv_iload_n X dX17_hinders_49 2 rfl ?_
          refine jv_fewer (jag.few (jag.new jag.rf hnq_1)) ?_
          exact jv_iret (v := nI r) X dX17_hinders_50 rfl hQ (Nat.le_of_ble_eq_true rfl) (Nat.le_of_ble_eq_true rfl) ⟨(hw1.trans (by rw [hirN_s (by omega), c46]; rfl)).symm, rfl⟩
  refine jv_lv (lv' := [(0, .ref t), (1, .ref q_1), (2, .int (nI 0))]) [2, 1, 0] rfl ?_
  exact lp13_2 (S 1 + 1) 0 (Nat.zero_le _) rfl (by omega)
