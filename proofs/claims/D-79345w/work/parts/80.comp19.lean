/-! searches: questions -/
set_option maxRecDepth 100000
/-- a search: what its cells hold -/
def jse (ci : Nat) (xs : List Value) (G : jv_G) (B M : jv_M) (S : Nat → Nat) (b t : Nat) (m_ : Int32) (ma oa sa : Nat) (e : Nat → Nat) : Prop :=
  (M t = some (.inr (ci, .ref b :: .ref ma :: .ref oa :: .int m_ :: .ref sa :: xs)) ∧ G.1 ≤ t ∧ B t = none) ∧
  (∃ gm : Nat → Int32, M ma = some (.inl (G.2.2.1 0, S 1, .inl gm)) ∧ ∀ k, k < S 1 → gm k = nI (msk S k)) ∧
  (∃ go : Nat → Int32, M oa = some (.inl (G.2.2.1 0, 36, .inl go)) ∧ ∀ p k, p < S 0 → k ≤ v_of S p 0 → go (6 * p + k) = nI (rk S p k)) ∧
  (∃ gs : Nat → Int32, M sa = some (.inl (G.2.2.1 0, 6, .inl gs)) ∧ (∀ q, q < 6 → gs q = nI (e q)) ∧ G.1 ≤ sa ∧ B sa = none) ∧ (∀ q, q < 6 → e q < 6) ∧ ma ≠ sa ∧ oa ≠ sa ∧ jag B M
theorem and1_01 (x : Int32) : x &&& nI 1 = 0 ∨ x &&& nI 1 = nI 1 := by
  have h : x &&& nI 1 = nI (1 % 2 ^ 32 &&& ux x) := by rw [Int32.and_comm]; exact ux_and 1 x
  rw [h, show 1 % 2 ^ 32 = 1 from rfl, Nat.one_and_eq_mod_two]
  rcases Nat.mod_two_eq_zero_or_one (ux x) with e | e <;> rw [e]
  · exact Or.inl rfl
  · exact Or.inr rfl
theorem hasI_f0 {m k : Int32} (h : hasI m k = false) : (m >>> (k &&& 31)) &&& nI 1 = 0 := by
  unfold hasI at h
  rcases and1_01 (m >>> (k &&& 31)) with e | e
  · exact e
  · rw [if_pos e] at h; cases h
theorem hasI_t0 {m k : Int32} (h : hasI m k = true) : ¬ (m >>> (k &&& 31)) &&& nI 1 = 0 := by
  intro z
  have := hasI_t h
  rw [z] at this
  exact absurd this (by decide)
theorem hasI_f1 {m k : Int32} (h : hasI m k = false) : ¬ (m >>> (k &&& 31)) &&& nI 1 = nI 1 := by
  rw [hasI_f0 h]; decide
theorem rWan_ge {S : Nat → Nat} {r : Nat} (h : ¬ rWan S r < 0) : v_ofRule S r 0 = 0 ∧ rWan S r = nI (v_ofRule S r 1) := by
  unfold rWan at *
  by_cases e : v_ofRule S r 0 = 0
  · rw [if_pos e]; exact ⟨e, rfl⟩
  · rw [if_neg e] at h; exact absurd (by decide) h
theorem rWan_lt {S : Nat → Nat} {r : Nat} (h1 : v_ofRule S r 1 < 6) (h : rWan S r < 0) : ¬ v_ofRule S r 0 = 0 := by
  intro e
  unfold rWan at h
  rw [if_pos e] at h
  exact Int32.not_lt.mpr (nI_pos' (by omega)) h
theorem rRea_ge {S : Nat → Nat} {r u w : Nat} (h : ¬ rRea S r u w < 0) : v_ofRule S r 0 = 1 ∧ (v_ofRule S r 1 = u ∧ v_ofRule S r 2 = w) ∧ rRea S r u w = nI (v_ofRule S r 3) := by
  unfold rRea at *
  by_cases e : v_ofRule S r 0 = 1
  · by_cases e2 : v_ofRule S r 1 = u ∧ v_ofRule S r 2 = w
    · rw [if_pos e, if_pos e2]; exact ⟨e, e2, rfl⟩
    · rw [if_pos e, if_neg e2] at h; exact absurd (by decide) h
  · rw [if_neg e] at h; exact absurd (by decide) h
theorem rRea_lt {S : Nat → Nat} {r u w : Nat} (h3 : v_ofRule S r 3 < 6) (h : rRea S r u w < 0) (e : v_ofRule S r 0 = 1) : ¬ (v_ofRule S r 1 = u ∧ v_ofRule S r 2 = w) := by
  intro e2
  unfold rRea at h
  rw [if_pos e, if_pos e2] at h
  exact Int32.not_lt.mpr (nI_pos' (by omega)) h
theorem lst_6 {S : Nat → Nat} (hW : wfB S) {r : Nat} (hr : r < 30) : lst_ S r < 6 := by
  have h1 := hW.r1 hr
  have h3 := hW.r3 hr
  have := lastN_le S r 5
  unfold lst_
  repeat' split
  all_goals omega
theorem nI_ne_m1 {n : Nat} (h : n < 2 ^ 31) : ¬ nI n = (-1) := by
  intro z
  have h2 := nI_pos' h
  rw [z] at h2
  exact absurd h2 (by decide)
theorem hd_X14_isAllowed : jv_dd yX14_isAllowed 1 := by unfold jv_dd; decide +kernel
set_option maxHeartbeats 4000000 in
theorem c_X14_isAllowed_X15 {l : Launch} {G : jv_G} {M : jv_M} {σ : jk_A} (hG : jk_G G σ) {B : jv_M} {τ : Nat → Nat} {b t ma oa sa : Nat} {m_ : Int32} {xm_ : Int32} {e : Nat → Nat} {S : Nat → Nat} (hB : jbd G B τ b S) (hS : wfS S) (hL : wfL S) (hPP : wfP S) (hse : jse 12 [.int xm_] G B M S b t m_ ma oa sa e) (p_ : Nat) (hp : p_ < S 0) : jv_Ct G l yX14_isAllowed cX14_isAllowed 4 (some .boolean) 8 0 0 260 [.ref t, .int (nI p_)] M (jv_qi G (jv_pi (bI (fit_ S m_ p_ e)) M)) := by
  refine jv_Ct.of (lv := [(0, .ref t), (1, .int (nI p_))]) (by decide) (Nat.le_of_ble_eq_true rfl) rfl ?_
  intro x Q_ hl_ hQ X
  subst hl_
  have hB0 := hB
  obtain ⟨⟨ht, hft, hnt⟩, ⟨gm, hma, hgm⟩, ⟨go, hoa, hgo⟩, ⟨gs, hsa, hgs, hfsa, hnsa⟩, he6, hms, hos, hag⟩ := id hse
  replace hB := hB.sub hag hS.1.p
  have hB_ := hB
  obtain ⟨lp, lr, la, P, R, A, hb, hfb, ⟨⟨mp_, ep, fp, hlp, hep, hn6, hfp, -, -, -⟩, hP⟩, ⟨⟨mr_, er, fr_, hlr, her, hn30, hfr_, -, -, -⟩, hR⟩, ⟨ma_, ea, fa, hla, hea, hn6a, hfa, -, -, -⟩, hA⟩ := hB
  have hW := hS.1
  have hp0 := hW.p
  have hr0 := hW.r
  have ha0 := hW.a
  have he64_ : ∀ p, p < 6 → e p < 64 := fun p hp => Nat.lt_trans (he6 p hp) (by decide)
  refine jv_iconst (v := nI 0) X dX14_isAllowed_0 rfl ?_
  refine jv_istore_n (lv' := [(2, .int (nI 0)), (0, .ref t), (1, .int (nI p_))]) X dX14_isAllowed_1 rfl (by decide) rfl ?_
  have lp2_1 : ∀ (d_2 : Nat) (i : Nat), i ≤ S 2 → asaN S p_ e i = true → S 2 - i < d_2 → jv_J x G 4 Q_ M 0 0 2 [(0, .ref t), (1, .int (nI p_)), (2, .int (nI i))] [] := by
    intro d_2
    induction d_2 with
    | zero => intro i hi hw1 hm_2; exact absurd hm_2 (Nat.not_lt_zero _)
    | succ d_2 ih_2 =>
      intro i hi hw1 hm_2
      refine jv_iload_n X dX14_isAllowed_2 2 rfl ?_
      refine jv_aload_n X dX14_isAllowed_3 0 rfl ?_
      refine jv_get X dX14_isAllowed_4 ht (T := TX15) (N := 6) (C := RX15) rfl in_X15 0 (by decide) q1198 rfl rfl ?_
      refine jv_getN X dX14_isAllowed_7 hb (T := TX1) (N := 3) (C := RX1) rfl in_X1 2 (by decide) q191 rfl rfl ?_
      refine jv_ask (jv_runV (As := []) (rest := [.int (nI i)]) X dX14_isAllowed_10 (c_J2_size hla) (lw_V q1189 q284 q285 q94 q286) hd_J2_size hla rfl (Nat.le_of_ble_eq_true rfl) (Nat.le_of_ble_eq_true rfl) (Nat.le_of_ble_eq_true rfl) (Nat.le_of_ble_eq_true rfl) rfl (Nat.le_of_ble_eq_true rfl)) ?_
      refine jn_icmp_ge 60 X dX14_isAllowed_13 (by decide) (by omega) (by omega) (fun c13 => ?_) (fun c13 => ?_)
      · skip
        refine jv_iconst (v := nI 0) X dX14_isAllowed_60 rfl ?_
        refine jv_istore_n (lv' := [(2, .int (nI 0)), (0, .ref t), (1, .int (nI p_))]) X dX14_isAllowed_61 rfl (by decide) rfl ?_
        have lp62_2 : ∀ (d_62 : Nat) (r : Nat), r ≤ S 1 → fitN S m_ p_ e r = true → S 1 - r < d_62 → jv_J x G 4 Q_ M 0 0 62 [(0, .ref t), (1, .int (nI p_)), (2, .int (nI r))] [] := by
          intro d_62
          induction d_62 with
          | zero => intro r hr hw2 hm_62; exact absurd hm_62 (Nat.not_lt_zero _)
          | succ d_62 ih_62 =>
            intro r hr hw2 hm_62
            refine jv_iload_n X dX14_isAllowed_62 2 rfl ?_
            refine jv_aload_n X dX14_isAllowed_63 0 rfl ?_
            refine jv_get X dX14_isAllowed_64 ht (T := TX15) (N := 6) (C := RX15) rfl in_X15 1 (by decide) q1199 rfl rfl ?_
            refine jv_alen (t0 := 0) (v := nI (S 1)) X dX14_isAllowed_67 hma rfl rfl ?_
            refine jn_icmp_ge 130 X dX14_isAllowed_68 (by decide) (by omega) (by omega) (fun c68 => ?_) (fun c68 => ?_)
            · skip
              refine jv_iconst (v := nI 1) X dX14_isAllowed_130 rfl ?_
              exact jv_iret (v := bI true) X dX14_isAllowed_131 (bI_nar _) hQ (Nat.le_of_ble_eq_true rfl) (Nat.le_of_ble_eq_true rfl) ⟨(congrArg bI (show true = fit_ S m_ p_ e by unfold fit_; rw [← hw2, show r = S 1 by omega])), rfl⟩
            · skip
              refine jv_aload_n X dX14_isAllowed_71 0 rfl ?_
              refine jv_get X dX14_isAllowed_72 ht (T := TX15) (N := 6) (C := RX15) rfl in_X15 0 (by decide) q1198 rfl rfl ?_
              refine jv_getN X dX14_isAllowed_75 hb (T := TX1) (N := 3) (C := RX1) rfl in_X1 1 (by decide) q187 rfl rfl ?_
              refine jv_iload_n X dX14_isAllowed_78 2 rfl ?_
              refine jv_callr (jv_runV (As := [.int (nI r)]) (rest := []) X dX14_isAllowed_79 (c_J2_get hlr her r (R r) (by omega) (by omega) (by omega) (by rw [hfr_ _ (by omega)]; rfl)) (lw_V q1190 q533 q534 q94 q535) hd_J2_get hlr rfl (Nat.le_of_ble_eq_true rfl) (Nat.le_of_ble_eq_true rfl) (Nat.le_of_ble_eq_true rfl) (Nat.le_of_ble_eq_true rfl) rfl (Nat.le_of_ble_eq_true rfl)) (fun rr_ M_ h_ => ?_)
              obtain ⟨hr_, hm_⟩ := h_
              rw [hr_, hm_]
              clear hr_ hm_
              refine jr_cast X dX14_isAllowed_82 q1245 (hR r (by omega)) ?_
              refine jv_astore_n (lv' := [(3, .ref (R r)), (0, .ref t), (1, .int (nI p_)), (2, .int (nI r))]) X dX14_isAllowed_85 rfl (by decide) rfl ?_
              refine jv_aload_n X dX14_isAllowed_86 1 rfl ?_
              refine jv_get X dX14_isAllowed_87 ht (T := TX15) (N := 6) (C := RX15) rfl in_X15 3 (by decide) q1201 rfl rfl ?_
              refine jv_iload_n X dX14_isAllowed_90 3 rfl ?_
              refine jv_ask (jv_runSN (As := [.int m_, .int (nI r)]) (rest := []) X dX14_isAllowed_91 (c_X0_has m_ (nI r)) (lw_meth q678) q1244 q90 q677 hd_X0_has (Nat.le_of_ble_eq_true rfl) (Nat.le_of_ble_eq_true rfl) (Nat.le_of_ble_eq_true rfl) (Nat.le_of_ble_eq_true rfl) rfl (Nat.le_of_ble_eq_true rfl)) ?_
              refine jb_if_eq 124 X dX14_isAllowed_94 (by decide) (fun c94 => ?_) (fun c94 => ?_)
              · skip
                refine jv_iinc (v := nI (r + 1)) (lv' := [(2, .int (nI (r + 1))), (3, .ref (R r)), (0, .ref t), (1, .int (nI p_))]) X dX14_isAllowed_124 3 rfl (nI_1 _) (by decide) rfl ?_
                refine jv_goto 62 X dX14_isAllowed_127 (by decide) ?_
                refine jv_lv (lv' := [(0, .ref t), (1, .int (nI p_)), (2, .int (nI (r + 1)))]) [2, 3, 0] rfl ?_
                exact ih_62 (r + 1) (by omega) (by unfold fitN fit1; rw [if_pos hw2, if_pos (hasI_f0 c94)]) (by omega)
              · skip
                refine jv_aload_n X dX14_isAllowed_97 0 rfl ?_
                refine jv_ask (jr_last (rest := []) X dX14_isAllowed_98 q1298 (hR r (by omega)) hW (by omega) (wl_x hW hL (by omega)) (Nat.le_of_ble_eq_true rfl) (Nat.le_of_ble_eq_true rfl) (Nat.le_of_ble_eq_true rfl) (Nat.le_of_ble_eq_true rfl) (Nat.le_of_ble_eq_true rfl)) ?_
                refine jv_iload_n X dX14_isAllowed_101 2 rfl ?_
                refine jn_icmp_ne 124 X dX14_isAllowed_102 (by decide) (by have := lst_6 hW (show r < 30 by omega); omega) (by omega) (fun c102 => ?_) (fun c102 => ?_)
                · skip
                  refine jv_iinc (v := nI (r + 1)) (lv' := [(2, .int (nI (r + 1))), (3, .ref (R r)), (0, .ref t), (1, .int (nI p_))]) X dX14_isAllowed_124 3 rfl (nI_1 _) (by decide) rfl ?_
                  refine jv_goto 62 X dX14_isAllowed_127 (by decide) ?_
                  refine jv_lv (lv' := [(0, .ref t), (1, .int (nI p_)), (2, .int (nI (r + 1)))]) [2, 3, 0] rfl ?_
                  exact ih_62 (r + 1) (by omega) (by unfold fitN fit1; rw [if_pos hw2, if_neg (hasI_t0 c94), if_neg c102]) (by omega)
                · skip
                  refine jv_aload_n X dX14_isAllowed_105 0 rfl ?_
                  refine jv_aload_n X dX14_isAllowed_106 1 rfl ?_
                  refine jv_get X dX14_isAllowed_107 ht (T := TX15) (N := 6) (C := RX15) rfl in_X15 1 (by decide) q1199 rfl rfl ?_
                  refine jv_iload_n X dX14_isAllowed_110 3 rfl ?_
                  refine jv_iald (v := nI (msk S r)) X dX14_isAllowed_111 hma (jn_in (by omega) (by omega)) (by rw [nI_clamp (by omega)]; exact (hgm _ (by omega))) ?_
                  refine jv_aload_n X dX14_isAllowed_112 1 rfl ?_
                  refine jv_get X dX14_isAllowed_113 ht (T := TX15) (N := 6) (C := RX15) rfl in_X15 4 (by decide) q1202 rfl rfl ?_
                  refine jv_ask (jr_isKept (rest := []) X dX14_isAllowed_116 q1312 (hR r (by omega)) hW (by omega) hL (by omega) hsa hgs he64_ he6 (Nat.le_of_ble_eq_true rfl) (Nat.le_of_ble_eq_true rfl) (Nat.le_of_ble_eq_true rfl) (Nat.le_of_ble_eq_true rfl) (Nat.le_of_ble_eq_true rfl)) ?_
                  refine jb_if_ne 124 X dX14_isAllowed_119 (by decide) (fun c119 => ?_) (fun c119 => ?_)
                  · skip
                    refine jv_iinc (v := nI (r + 1)) (lv' := [(2, .int (nI (r + 1))), (3, .ref (R r)), (0, .ref t), (1, .int (nI p_))]) X dX14_isAllowed_124 3 rfl (nI_1 _) (by decide) rfl ?_
                    refine jv_goto 62 X dX14_isAllowed_127 (by decide) ?_
                    refine jv_lv (lv' := [(0, .ref t), (1, .int (nI p_)), (2, .int (nI (r + 1)))]) [2, 3, 0] rfl ?_
                    exact ih_62 (r + 1) (by omega) (by unfold fitN fit1; rw [if_pos hw2, if_neg (hasI_t0 c94), if_pos c102, c119, if_pos rfl]) (by omega)
                  · skip
                    refine jv_iconst (v := nI 0) X dX14_isAllowed_122 rfl ?_
                    exact jv_iret (v := bI false) X dX14_isAllowed_123 (bI_nar _) hQ (Nat.le_of_ble_eq_true rfl) (Nat.le_of_ble_eq_true rfl) ⟨(congrArg bI (show false = fit_ S m_ p_ e from (fitN_f (r := r + 1) (by unfold fitN fit1; rw [if_pos hw2, if_neg (hasI_t0 c94), if_pos c102, c119]; rfl) (by omega)).symm)), rfl⟩
        refine jv_lv (lv' := [(0, .ref t), (1, .int (nI p_)), (2, .int (nI 0))]) [1, 2, 0] rfl ?_
        exact lp62_2 (S 1 + 1) 0 (Nat.zero_le _) (show asaN S p_ e (S 2) = true by rw [← hw1, show i = S 2 by omega]) (by omega)
      · skip
        refine jv_aload_n X dX14_isAllowed_16 0 rfl ?_
        refine jv_get X dX14_isAllowed_17 ht (T := TX15) (N := 6) (C := RX15) rfl in_X15 0 (by decide) q1198 rfl rfl ?_
        refine jv_getN X dX14_isAllowed_20 hb (T := TX1) (N := 3) (C := RX1) rfl in_X1 2 (by decide) q191 rfl rfl ?_
        refine jv_iload_n X dX14_isAllowed_23 2 rfl ?_
        refine jv_callr (jv_runV (As := [.int (nI i)]) (rest := []) X dX14_isAllowed_24 (c_J2_get hla hea i (A i) (by omega) (by omega) (by omega) (by rw [hfa _ (by omega)]; rfl)) (lw_V q1190 q533 q534 q94 q535) hd_J2_get hla rfl (Nat.le_of_ble_eq_true rfl) (Nat.le_of_ble_eq_true rfl) (Nat.le_of_ble_eq_true rfl) (Nat.le_of_ble_eq_true rfl) rfl (Nat.le_of_ble_eq_true rfl)) (fun rr_ M_ h_ => ?_)
        obtain ⟨hr_, hm_⟩ := h_
        rw [hr_, hm_]
        clear hr_ hm_
        refine jv_castS X dX14_isAllowed_27 (hA i (by omega)).2 (r := (RX12, TX12, 2)) rfl q1297 ?_
        refine jv_astore_n (lv' := [(3, .ref (A i)), (0, .ref t), (1, .int (nI p_)), (2, .int (nI i))]) X dX14_isAllowed_30 rfl (by decide) rfl ?_
        refine jv_aload_n X dX14_isAllowed_31 0 rfl ?_
        refine jv_getN X dX14_isAllowed_32 (hA i (by omega)).2 (T := TX12) (N := 2) (C := RX12) rfl in_X12 0 (by decide) q1114 rfl rfl ?_
        refine jv_iload_n X dX14_isAllowed_35 2 rfl ?_
        refine jn_icmp_ne 54 X dX14_isAllowed_36 (by decide) (by have := hW.a0 (show i < 6 by omega); omega) (by omega) (fun c36 => ?_) (fun c36 => ?_)
        · skip
          refine jv_iinc (v := nI (i + 1)) (lv' := [(2, .int (nI (i + 1))), (3, .ref (A i)), (0, .ref t), (1, .int (nI p_))]) X dX14_isAllowed_54 3 rfl (nI_1 _) (by decide) rfl ?_
          refine jv_goto 2 X dX14_isAllowed_57 (by decide) ?_
          refine jv_lv (lv' := [(0, .ref t), (1, .int (nI p_)), (2, .int (nI (i + 1)))]) [2, 3, 0] rfl ?_
          exact ih_2 (i + 1) (by omega) (by unfold asaN; rw [hw1, Bool.true_and, if_neg c36]) (by omega)
        · skip
          refine jv_aload_n X dX14_isAllowed_39 0 rfl ?_
          refine jv_getN X dX14_isAllowed_40 (hA i (by omega)).2 (T := TX12) (N := 2) (C := RX12) rfl in_X12 1 (by decide) q1120 rfl rfl ?_
          refine jv_aload_n X dX14_isAllowed_43 1 rfl ?_
          refine jv_get X dX14_isAllowed_44 ht (T := TX15) (N := 6) (C := RX15) rfl in_X15 4 (by decide) q1202 rfl rfl ?_
          refine jv_iload_n X dX14_isAllowed_47 2 rfl ?_
          refine jv_iald (v := nI (e p_)) X dX14_isAllowed_48 hsa (jn_in (by omega) (by decide)) (by rw [nI_clamp (by omega)]; exact (hgs _ (by omega))) ?_
          refine jn_icmp_eq 54 X dX14_isAllowed_49 (by decide) (by have := hW.a1 (show i < 6 by omega); omega) (Nat.lt_trans (he6 _ (by omega)) (by decide)) (fun c49 => ?_) (fun c49 => ?_)
          · skip
            refine jv_iinc (v := nI (i + 1)) (lv' := [(2, .int (nI (i + 1))), (3, .ref (A i)), (0, .ref t), (1, .int (nI p_))]) X dX14_isAllowed_54 3 rfl (nI_1 _) (by decide) rfl ?_
            refine jv_goto 2 X dX14_isAllowed_57 (by decide) ?_
            refine jv_lv (lv' := [(0, .ref t), (1, .int (nI p_)), (2, .int (nI (i + 1)))]) [2, 3, 0] rfl ?_
            exact ih_2 (i + 1) (by omega) (by unfold asaN; rw [hw1, Bool.true_and, if_pos c36, if_pos c49]) (by omega)
          · skip
            refine jv_iconst (v := nI 0) X dX14_isAllowed_52 rfl ?_
            exact jv_iret (v := bI false) X dX14_isAllowed_53 (bI_nar _) hQ (Nat.le_of_ble_eq_true rfl) (Nat.le_of_ble_eq_true rfl) ⟨(congrArg bI (show false = fit_ S m_ p_ e from (fitN_f (r := 0) (asaN_f c36 (fun z => c49 z) (by omega)) (Nat.zero_le _)).symm)), rfl⟩
  refine jv_lv (lv' := [(0, .ref t), (1, .int (nI p_)), (2, .int (nI 0))]) [1, 2, 0] rfl ?_
  exact lp2_1 (S 2 + 1) 0 (Nat.zero_le _) rfl (by omega)
theorem hd_X14_reachedBy : jv_dd yX14_reachedBy 2 := by unfold jv_dd; decide +kernel
set_option maxHeartbeats 4000000 in
theorem c_X14_reachedBy_X15 {l : Launch} {G : jv_G} {M : jv_M} {σ : jk_A} (hG : jk_G G σ) {B : jv_M} {τ : Nat → Nat} {b t ma oa sa : Nat} {m_ : Int32} {xm_ : Int32} {e : Nat → Nat} {S : Nat → Nat} (hB : jbd G B τ b S) (hS : wfS S) (hL : wfL S) (hPP : wfP S) (hse : jse 12 [.int xm_] G B M S b t m_ ma oa sa e) (r : Nat) (a_ : Nat) (w_ : Nat) (hr : r < S 1) (ha_ : jrule G M τ S r a_) (hw_ : w_ < 64) : jv_Ct G l yX14_reachedBy cX14_reachedBy 6 (some .int) 8 0 0 260 [.ref t, .ref a_, .int (nI w_)] M (jv_qi G (jv_pi (nI (rby S e r w_)) M)) := by
  refine jv_Ct.of (lv := [(0, .ref t), (1, .ref a_), (2, .int (nI w_))]) (by decide) (Nat.le_of_ble_eq_true rfl) rfl ?_
  intro x Q_ hl_ hQ X
  subst hl_
  have hB0 := hB
  obtain ⟨⟨ht, hft, hnt⟩, ⟨gm, hma, hgm⟩, ⟨go, hoa, hgo⟩, ⟨gs, hsa, hgs, hfsa, hnsa⟩, he6, hms, hos, hag⟩ := id hse
  replace hB := hB.sub hag hS.1.p
  have hB_ := hB
  obtain ⟨lp, lr, la, P, R, A, hb, hfb, ⟨⟨mp_, ep, fp, hlp, hep, hn6, hfp, -, -, -⟩, hP⟩, ⟨⟨mr_, er, fr_, hlr, her, hn30, hfr_, -, -, -⟩, hR⟩, ⟨ma_, ea, fa, hla, hea, hn6a, hfa, -, -, -⟩, hA⟩ := hB
  have hW := hS.1
  have hp0 := hW.p
  have hr0 := hW.r
  have ha0 := hW.a
  have he64_ : ∀ p, p < 6 → e p < 64 := fun p hp => Nat.lt_trans (he6 p hp) (by decide)
  have hr1_ := hW.r1 (show r < 30 by omega)
  have hr3_ := hW.r3 (show r < 30 by omega)
  refine jv_aload_n X dX14_reachedBy_0 1 rfl ?_
  refine jv_ask (jr_wanted (rest := []) X dX14_reachedBy_1 q1250 ha_ (Nat.le_of_ble_eq_true rfl) (Nat.le_of_ble_eq_true rfl) (Nat.le_of_ble_eq_true rfl) (Nat.le_of_ble_eq_true rfl) (Nat.le_of_ble_eq_true rfl)) ?_
  refine jv_if_lt 14 X dX14_reachedBy_4 (by decide) (fun c4 => ?_) (fun c4 => ?_)
  · skip
    have hk0_ := rWan_lt hr1_ c4
    refine jv_iconst (v := nI 0) X dX14_reachedBy_14 rfl ?_
    refine jv_istore_n (lv' := [(3, .int (nI 0)), (0, .ref t), (1, .ref a_), (2, .int (nI w_))]) X dX14_reachedBy_15 rfl (by decide) rfl ?_
    refine jv_iconst (v := nI 0) X dX14_reachedBy_16 rfl ?_
    refine jv_istore (lv' := [(4, .int (nI 0)), (3, .int (nI 0)), (0, .ref t), (1, .ref a_), (2, .int (nI w_))]) X dX14_reachedBy_17 (by decide) rfl ?_
    have lp19_1 : ∀ (d_19 : Nat) (p : Nat) (w : Nat), p ≤ S 0 → w = rbP S e r w_ p → S 0 - p < d_19 → jv_J x G 6 Q_ M 0 0 19 [(0, .ref t), (1, .ref a_), (2, .int (nI w_)), (3, .int (nI w)), (4, .int (nI p))] [] := by
      intro d_19
      induction d_19 with
      | zero => intro p w hp hw hm_19; exact absurd hm_19 (Nat.not_lt_zero _)
      | succ d_19 ih_19 =>
        intro p w hp hw hm_19
        refine jv_iload X dX14_reachedBy_19 4 rfl ?_
        refine jv_aload_n X dX14_reachedBy_21 0 rfl ?_
        refine jv_get X dX14_reachedBy_22 ht (T := TX15) (N := 6) (C := RX15) rfl in_X15 0 (by decide) q1198 rfl rfl ?_
        refine jv_getN X dX14_reachedBy_25 hb (T := TX1) (N := 3) (C := RX1) rfl in_X1 0 (by decide) q181 rfl rfl ?_
        refine jv_ask (jv_runV (As := []) (rest := [.int (nI p)]) X dX14_reachedBy_28 (c_J2_size hlp) (lw_V q1189 q284 q285 q94 q286) hd_J2_size hlp rfl (Nat.le_of_ble_eq_true rfl) (Nat.le_of_ble_eq_true rfl) (Nat.le_of_ble_eq_true rfl) (Nat.le_of_ble_eq_true rfl) rfl (Nat.le_of_ble_eq_true rfl)) ?_
        refine jn_icmp_ge 84 X dX14_reachedBy_31 (by decide) (by omega) (by omega) (fun c31 => ?_) (fun c31 => ?_)
        · skip
          refine jv_iload_n X dX14_reachedBy_84 3 rfl ?_
          exact jv_iret (v := nI w) X dX14_reachedBy_85 rfl hQ (Nat.le_of_ble_eq_true rfl) (Nat.le_of_ble_eq_true rfl) ⟨(congrArg nI (by unfold rby; rw [if_neg hk0_, hw, show p = S 0 by omega])), rfl⟩
        · skip
          refine jv_iload_n X dX14_reachedBy_34 2 rfl ?_
          refine jv_iload X dX14_reachedBy_35 4 rfl ?_
          refine jv_ask (jv_runSN (As := [.int (nI w_), .int (nI p)]) (rest := []) X dX14_reachedBy_37 (c_X0_has (nI w_) (nI p)) (lw_meth q678) q1244 q90 q677 hd_X0_has (Nat.le_of_ble_eq_true rfl) (Nat.le_of_ble_eq_true rfl) (Nat.le_of_ble_eq_true rfl) (Nat.le_of_ble_eq_true rfl) rfl (Nat.le_of_ble_eq_true rfl)) ?_
          refine jb_if_eq 59 X dX14_reachedBy_40 (by decide) (fun c40 => ?_) (fun c40 => ?_)
          · skip
            refine jv_iconst (v := (-1)) X dX14_reachedBy_59 rfl ?_
            refine jv_istore (lv' := [(5, .int (-1)), (0, .ref t), (1, .ref a_), (2, .int (nI w_)), (3, .int (nI w)), (4, .int (nI p))]) X dX14_reachedBy_60 (by decide) rfl ?_
            refine jv_iload_n X dX14_reachedBy_62 4 rfl ?_
            refine jv_iload X dX14_reachedBy_63 0 rfl ?_
            refine jv_if_lt 75 X dX14_reachedBy_65 (by decide) (fun c65 => ?_) (fun c65 => ?_)
            · skip
              refine jv_iconst (v := nI 0) X dX14_reachedBy_75 rfl ?_
              refine jv_ior (w := nI (w ||| 0)) X dX14_reachedBy_76 (ni_or _ _) ?_
              refine jv_istore_n (lv' := [(3, .int (nI (w ||| 0))), (5, .int (-1)), (0, .ref t), (1, .ref a_), (2, .int (nI w_)), (4, .int (nI p))]) X dX14_reachedBy_77 rfl (by decide) rfl ?_
              refine jv_iinc (v := nI (p + 1)) (lv' := [(4, .int (nI (p + 1))), (3, .int (nI (w ||| 0))), (5, .int (-1)), (0, .ref t), (1, .ref a_), (2, .int (nI w_))]) X dX14_reachedBy_78 5 rfl (nI_1 _) (by decide) rfl ?_
              refine jv_goto 19 X dX14_reachedBy_81 (by decide) ?_
              refine jv_lv (lv' := [(0, .ref t), (1, .ref a_), (2, .int (nI w_)), (3, .int (nI (w ||| 0))), (4, .int (nI (p + 1)))]) [3, 4, 5, 1, 0] rfl ?_
              exact ih_19 (p + 1) (w ||| 0) (by omega) (by rw [hw]; show _ = rbP S e r w_ p ||| (if w_ / 2 ^ p &&& 1 = 1 then (if v_ofRule S r 0 = 1 then (if v_ofRule S r 1 = p ∧ v_ofRule S r 2 = e p then 2 ^ v_ofRule S r 3 else 0) else 0) else 0); rw [if_neg (fun z => by have := hasI_b (u := w_) (k := p) (by omega) (by omega); rw [c40, if_pos z] at this; cases this)]) (by omega)
            · skip
              exact (absurd (by decide) c65)
          · skip
            refine jv_aload_n X dX14_reachedBy_43 1 rfl ?_
            refine jv_iload X dX14_reachedBy_44 4 rfl ?_
            refine jv_aload_n X dX14_reachedBy_46 0 rfl ?_
            refine jv_get X dX14_reachedBy_47 ht (T := TX15) (N := 6) (C := RX15) rfl in_X15 4 (by decide) q1202 rfl rfl ?_
            refine jv_iload X dX14_reachedBy_50 4 rfl ?_
            refine jv_iald (v := nI (e p)) X dX14_reachedBy_52 hsa (jn_in (by omega) (by decide)) (by rw [nI_clamp (by omega)]; exact (hgs _ (by omega))) ?_
            refine jv_ask (jr_reaches (rest := []) X dX14_reachedBy_53 q1260 ha_ hW (by omega) p (e p) (by omega) (Nat.lt_trans (he6 _ (by omega)) (by decide)) (Nat.le_of_ble_eq_true rfl) (Nat.le_of_ble_eq_true rfl) (Nat.le_of_ble_eq_true rfl) (Nat.le_of_ble_eq_true rfl) (Nat.le_of_ble_eq_true rfl)) ?_
            refine jv_goto 60 X dX14_reachedBy_56 (by decide) ?_
            refine jv_istore (lv' := [(5, .int (rRea S r p (e p))), (0, .ref t), (1, .ref a_), (2, .int (nI w_)), (3, .int (nI w)), (4, .int (nI p))]) X dX14_reachedBy_60 (by decide) rfl ?_
            refine jv_iload_n X dX14_reachedBy_62 4 rfl ?_
            refine jv_iload X dX14_reachedBy_63 0 rfl ?_
            refine jv_if_lt 75 X dX14_reachedBy_65 (by decide) (fun c65 => ?_) (fun c65 => ?_)
            · skip
              refine jv_iconst (v := nI 0) X dX14_reachedBy_75 rfl ?_
              refine jv_ior (w := nI (w ||| 0)) X dX14_reachedBy_76 (ni_or _ _) ?_
              refine jv_istore_n (lv' := [(3, .int (nI (w ||| 0))), (5, .int (rRea S r p (e p))), (0, .ref t), (1, .ref a_), (2, .int (nI w_)), (4, .int (nI p))]) X dX14_reachedBy_77 rfl (by decide) rfl ?_
              refine jv_iinc (v := nI (p + 1)) (lv' := [(4, .int (nI (p + 1))), (3, .int (nI (w ||| 0))), (5, .int (rRea S r p (e p))), (0, .ref t), (1, .ref a_), (2, .int (nI w_))]) X dX14_reachedBy_78 5 rfl (nI_1 _) (by decide) rfl ?_
              refine jv_goto 19 X dX14_reachedBy_81 (by decide) ?_
              refine jv_lv (lv' := [(0, .ref t), (1, .ref a_), (2, .int (nI w_)), (3, .int (nI (w ||| 0))), (4, .int (nI (p + 1)))]) [3, 4, 5, 1, 0] rfl ?_
              exact ih_19 (p + 1) (w ||| 0) (by omega) (by rw [hw]; show _ = rbP S e r w_ p ||| (if w_ / 2 ^ p &&& 1 = 1 then (if v_ofRule S r 0 = 1 then (if v_ofRule S r 1 = p ∧ v_ofRule S r 2 = e p then 2 ^ v_ofRule S r 3 else 0) else 0) else 0); rw [if_pos (by have := hasI_b (u := w_) (k := p) (by omega) (by omega); rw [c40] at this; exact Classical.byContradiction fun z => by rw [if_neg z] at this; cases this)]; by_cases e1 : v_ofRule S r 0 = 1; rw [if_pos e1, if_neg (rRea_lt hr3_ c65 e1)]; rw [if_neg e1]) (by omega)
            · skip
              have hq_ := rRea_ge c65
              rw [hq_.2.2]
              refine jv_iconst (v := nI 1) X dX14_reachedBy_68 rfl ?_
              refine jv_iload X dX14_reachedBy_69 0 rfl ?_
              refine jv_ishl (w := nI (2 ^ (v_ofRule S r 3))) X dX14_reachedBy_71 (ni_shl1 (by omega)) ?_
              refine jv_goto 76 X dX14_reachedBy_72 (by decide) ?_
              refine jv_ior (w := nI (w ||| (2 ^ (v_ofRule S r 3)))) X dX14_reachedBy_76 (ni_or _ _) ?_
              refine jv_istore_n (lv' := [(3, .int (nI (w ||| (2 ^ (v_ofRule S r 3))))), (5, .int (nI (v_ofRule S r 3))), (0, .ref t), (1, .ref a_), (2, .int (nI w_)), (4, .int (nI p))]) X dX14_reachedBy_77 rfl (by decide) rfl ?_
              refine jv_iinc (v := nI (p + 1)) (lv' := [(4, .int (nI (p + 1))), (3, .int (nI (w ||| (2 ^ (v_ofRule S r 3))))), (5, .int (nI (v_ofRule S r 3))), (0, .ref t), (1, .ref a_), (2, .int (nI w_))]) X dX14_reachedBy_78 5 rfl (nI_1 _) (by decide) rfl ?_
              refine jv_goto 19 X dX14_reachedBy_81 (by decide) ?_
              refine jv_lv (lv' := [(0, .ref t), (1, .ref a_), (2, .int (nI w_)), (3, .int (nI (w ||| (2 ^ (v_ofRule S r 3))))), (4, .int (nI (p + 1)))]) [3, 4, 5, 1, 0] rfl ?_
              exact ih_19 (p + 1) (w ||| (2 ^ (v_ofRule S r 3))) (by omega) (by rw [hw]; show _ = rbP S e r w_ p ||| (if w_ / 2 ^ p &&& 1 = 1 then (if v_ofRule S r 0 = 1 then (if v_ofRule S r 1 = p ∧ v_ofRule S r 2 = e p then 2 ^ v_ofRule S r 3 else 0) else 0) else 0); rw [if_pos (by have := hasI_b (u := w_) (k := p) (by omega) (by omega); rw [c40] at this; exact Classical.byContradiction fun z => by rw [if_neg z] at this; cases this), if_pos hq_.1, if_pos hq_.2.1]) (by omega)
    refine jv_lv (lv' := [(0, .ref t), (1, .ref a_), (2, .int (nI w_)), (3, .int (nI 0)), (4, .int (nI 0))]) [2, 3, 4, 1, 0] rfl ?_
    exact lp19_1 (S 0 + 1) 0 0 (Nat.zero_le _) rfl (by omega)
  · skip
    refine jv_iconst (v := nI 1) X dX14_reachedBy_7 rfl ?_
    refine jv_aload_n X dX14_reachedBy_8 1 rfl ?_
    refine jv_ask (jr_wanted (rest := [.int (nI 1)]) X dX14_reachedBy_9 q1250 ha_ (Nat.le_of_ble_eq_true rfl) (Nat.le_of_ble_eq_true rfl) (Nat.le_of_ble_eq_true rfl) (Nat.le_of_ble_eq_true rfl) (Nat.le_of_ble_eq_true rfl)) ?_
    have hq_ := rWan_ge c4
    rw [hq_.2]
    refine jv_ishl (w := nI (2 ^ (v_ofRule S r 1))) X dX14_reachedBy_12 (ni_shl1 (by omega)) ?_
    exact jv_iret (v := nI (2 ^ (v_ofRule S r 1))) X dX14_reachedBy_13 rfl hQ (Nat.le_of_ble_eq_true rfl) (Nat.le_of_ble_eq_true rfl) ⟨(congrArg nI (by unfold rby; rw [if_pos hq_.1])), rfl⟩
theorem hd_X14_reached : jv_dd yX14_reached 0 := by unfold jv_dd; decide +kernel
set_option maxHeartbeats 4000000 in
theorem c_X14_reached_X15 {l : Launch} {G : jv_G} {M : jv_M} {σ : jk_A} (hG : jk_G G σ) {B : jv_M} {τ : Nat → Nat} {b t ma oa sa : Nat} {m_ : Int32} {xm_ : Int32} {e : Nat → Nat} {S : Nat → Nat} (hB : jbd G B τ b S) (hS : wfS S) (hL : wfL S) (hPP : wfP S) (hse : jse 12 [.int xm_] G B M S b t m_ ma oa sa e)   : jv_Ct G l yX14_reached cX14_reached 4 (some .int) 9 0 0 285 [.ref t] M (jv_qi G (jv_pi (nI (rchT S e m_ (S 0 + 1))) M)) := by
  refine jv_Ct.of (lv := [(0, .ref t)]) (by decide) (Nat.le_of_ble_eq_true rfl) rfl ?_
  intro x Q_ hl_ hQ X
  subst hl_
  have hB0 := hB
  obtain ⟨⟨ht, hft, hnt⟩, ⟨gm, hma, hgm⟩, ⟨go, hoa, hgo⟩, ⟨gs, hsa, hgs, hfsa, hnsa⟩, he6, hms, hos, hag⟩ := id hse
  replace hB := hB.sub hag hS.1.p
  have hB_ := hB
  obtain ⟨lp, lr, la, P, R, A, hb, hfb, ⟨⟨mp_, ep, fp, hlp, hep, hn6, hfp, -, -, -⟩, hP⟩, ⟨⟨mr_, er, fr_, hlr, her, hn30, hfr_, -, -, -⟩, hR⟩, ⟨ma_, ea, fa, hla, hea, hn6a, hfa, -, -, -⟩, hA⟩ := hB
  have hW := hS.1
  have hp0 := hW.p
  have hr0 := hW.r
  have ha0 := hW.a
  have he64_ : ∀ p, p < 6 → e p < 64 := fun p hp => Nat.lt_trans (he6 p hp) (by decide)
  refine jv_iconst (v := nI 0) X dX14_reached_0 rfl ?_
  refine jv_istore_n (lv' := [(1, .int (nI 0)), (0, .ref t)]) X dX14_reached_1 rfl (by decide) rfl ?_
  refine jv_iconst (v := (-1)) X dX14_reached_2 rfl ?_
  refine jv_istore_n (lv' := [(2, .int (-1)), (1, .int (nI 0)), (0, .ref t)]) X dX14_reached_3 rfl (by decide) rfl ?_
  have lp4_1 : ∀ (d_4 : Nat) (w : Nat) (x_ : Int32), w < 64 → (∀ V, rcl S e m_ V → sbs w V) → (x_ = (-1) ∨ ∃ u, u < 64 ∧ x_ = nI u ∧ w = jcR S e m_ u (S 1)) → 2 * (64 - w) + (if x_ = nI w then 0 else 1) < d_4 → jv_J x G 4 Q_ M 0 0 4 [(0, .ref t), (1, .int (nI w)), (2, .int x_)] [] := by
    intro d_4
    induction d_4 with
    | zero => intro w x_ hw hmn hx_ hm_4; exact absurd hm_4 (Nat.not_lt_zero _)
    | succ d_4 ih_4 =>
      intro w x_ hw hmn hx_ hm_4
      refine jv_iload_n X dX14_reached_4 1 rfl ?_
      refine jv_iload_n X dX14_reached_5 2 rfl ?_
      refine jv_icmp_eq 64 X dX14_reached_6 (by decide) (fun c6 => ?_) (fun c6 => ?_)
      · skip
        refine jv_iload_n X dX14_reached_64 1 rfl ?_
        exact jv_iret (v := nI w) X dX14_reached_65 rfl hQ (Nat.le_of_ble_eq_true rfl) (Nat.le_of_ble_eq_true rfl) ⟨(congrArg nI (by rcases hx_ with z | ⟨u, hu, z, z2⟩; exact absurd (c6.trans z) (nI_ne_m1 (by omega)); have h5 : w = u := (nI_eq (by omega) (by omega)).mp (c6.trans z); subst h5; exact rch_e hS z2.symm hmn)), rfl⟩
      · skip
        refine jv_iload_n X dX14_reached_9 1 rfl ?_
        refine jv_istore_n (lv' := [(2, .int (nI w)), (0, .ref t), (1, .int (nI w))]) X dX14_reached_10 rfl (by decide) rfl ?_
        refine jv_iconst (v := nI 0) X dX14_reached_11 rfl ?_
        refine jv_istore_n (lv' := [(3, .int (nI 0)), (2, .int (nI w)), (0, .ref t), (1, .int (nI w))]) X dX14_reached_12 rfl (by decide) rfl ?_
        have lp13_2 : ∀ (d_13 : Nat) (r : Nat) (w2 : Nat), r ≤ S 1 → w2 = jcR S e m_ w r → S 1 - r < d_13 → jv_J x G 4 Q_ M 0 0 13 [(0, .ref t), (2, .int (nI w)), (1, .int (nI w2)), (3, .int (nI r))] [] := by
          intro d_13
          induction d_13 with
          | zero => intro r w2 hr hw2 hm_13; exact absurd hm_13 (Nat.not_lt_zero _)
          | succ d_13 ih_13 =>
            intro r w2 hr hw2 hm_13
            refine jv_iload_n X dX14_reached_13 3 rfl ?_
            refine jv_aload_n X dX14_reached_14 0 rfl ?_
            refine jv_get X dX14_reached_15 ht (T := TX15) (N := 6) (C := RX15) rfl in_X15 1 (by decide) q1199 rfl rfl ?_
            refine jv_alen (t0 := 0) (v := nI (S 1)) X dX14_reached_18 hma rfl rfl ?_
            refine jn_icmp_ge 61 X dX14_reached_19 (by decide) (by omega) (by omega) (fun c19 => ?_) (fun c19 => ?_)
            · skip
              refine jv_goto 4 X dX14_reached_61 (by decide) ?_
              refine jv_lv (lv' := [(0, .ref t), (1, .int (nI w2)), (2, .int (nI w))]) [0, 2, 1] rfl ?_
              exact ih_4 w2 (nI w) (by rw [hw2]; exact jcR_lt hW hw _ (by omega)) (fun V hV => by rw [hw2]; exact jcR_min hV (hmn V hV) _ (by omega)) (Or.inr ⟨w, hw, rfl, by rw [hw2, show r = S 1 by omega]⟩) (by have h1 := (jcR_up S e m_ w r).le; rw [← hw2] at h1; have h3 : w2 < 64 := (by rw [hw2]; exact jcR_lt hW hw _ (by omega)); rw [if_neg (fun z => c6 z.symm)] at hm_4; by_cases h4 : w2 = w; rw [h4, if_pos rfl]; omega; have : (if nI w = nI w2 then 0 else 1) ≤ 1 := (by split <;> omega); omega)
            · skip
              refine jv_aload_n X dX14_reached_22 0 rfl ?_
              refine jv_get X dX14_reached_23 ht (T := TX15) (N := 6) (C := RX15) rfl in_X15 3 (by decide) q1201 rfl rfl ?_
              refine jv_iload_n X dX14_reached_26 3 rfl ?_
              refine jv_ask (jv_runSN (As := [.int m_, .int (nI r)]) (rest := []) X dX14_reached_27 (c_X0_has m_ (nI r)) (lw_meth q678) q1244 q90 q677 hd_X0_has (Nat.le_of_ble_eq_true rfl) (Nat.le_of_ble_eq_true rfl) (Nat.le_of_ble_eq_true rfl) (Nat.le_of_ble_eq_true rfl) rfl (Nat.le_of_ble_eq_true rfl)) ?_
              refine jb_if_eq 55 X dX14_reached_30 (by decide) (fun c30 => ?_) (fun c30 => ?_)
              · skip
                refine jv_iinc (v := nI (r + 1)) (lv' := [(3, .int (nI (r + 1))), (0, .ref t), (2, .int (nI w)), (1, .int (nI w2))]) X dX14_reached_55 3 rfl (nI_1 _) (by decide) rfl ?_
                refine jv_goto 13 X dX14_reached_58 (by decide) ?_
                refine jv_lv (lv' := [(0, .ref t), (2, .int (nI w)), (1, .int (nI w2)), (3, .int (nI (r + 1)))]) [1, 2, 3, 0] rfl ?_
                exact ih_13 (r + 1) w2 (by omega) (by rw [hw2]; show _ = jcR S e m_ w r ||| (if (m_ >>> (nI r &&& 31)) &&& nI 1 = nI 1 then rby S e r w else 0); rw [if_neg (hasI_f1 c30), Nat.or_zero]) (by omega)
              · skip
                refine jv_iload_n X dX14_reached_33 2 rfl ?_
                refine jv_aload_n X dX14_reached_34 0 rfl ?_
                refine jv_aload_n X dX14_reached_35 0 rfl ?_
                refine jv_get X dX14_reached_36 ht (T := TX15) (N := 6) (C := RX15) rfl in_X15 0 (by decide) q1198 rfl rfl ?_
                refine jv_getN X dX14_reached_39 hb (T := TX1) (N := 3) (C := RX1) rfl in_X1 1 (by decide) q187 rfl rfl ?_
                refine jv_iload_n X dX14_reached_42 3 rfl ?_
                refine jv_callr (jv_runV (As := [.int (nI r)]) (rest := [.ref t, .int (nI w2)]) X dX14_reached_43 (c_J2_get hlr her r (R r) (by omega) (by omega) (by omega) (by rw [hfr_ _ (by omega)]; rfl)) (lw_V q1190 q533 q534 q94 q535) hd_J2_get hlr rfl (Nat.le_of_ble_eq_true rfl) (Nat.le_of_ble_eq_true rfl) (Nat.le_of_ble_eq_true rfl) (Nat.le_of_ble_eq_true rfl) rfl (Nat.le_of_ble_eq_true rfl)) (fun rr_ M_ h_ => ?_)
                obtain ⟨hr_, hm_⟩ := h_
                rw [hr_, hm_]
                clear hr_ hm_
                refine jr_cast X dX14_reached_46 q1245 (hR r (by omega)) ?_
                refine jv_iload_n X dX14_reached_49 1 rfl ?_
                refine jv_ask (jv_runU (As := [.ref (R r), .int (nI w)]) (rest := [.int (nI w2)]) X dX14_reached_50 (c_X14_reachedBy_X15 hG hB0 hS hL hPP hse r (R r) w (by omega) (hR r (by omega)) hw) (jv_cuP X q1246 q2474 q1247 q1248 q122 q1249 q1176 ⟨by decide, by decide⟩ hd_X14_reachedBy (Nat.le_of_ble_eq_true rfl) (Nat.le_of_ble_eq_true rfl)) ht (show jv_cl[12]? = some (RX15, TX15, 6) from rfl) (Nat.le_of_ble_eq_true rfl) (Nat.le_of_ble_eq_true rfl) rfl (Nat.le_of_ble_eq_true rfl)) ?_
                refine jv_ior (w := nI (w2 ||| (rby S e r w))) X dX14_reached_53 (ni_or _ _) ?_
                refine jv_istore_n (lv' := [(1, .int (nI (w2 ||| (rby S e r w)))), (0, .ref t), (2, .int (nI w)), (3, .int (nI r))]) X dX14_reached_54 rfl (by decide) rfl ?_
                refine jv_iinc (v := nI (r + 1)) (lv' := [(3, .int (nI (r + 1))), (1, .int (nI (w2 ||| (rby S e r w)))), (0, .ref t), (2, .int (nI w))]) X dX14_reached_55 3 rfl (nI_1 _) (by decide) rfl ?_
                refine jv_goto 13 X dX14_reached_58 (by decide) ?_
                refine jv_lv (lv' := [(0, .ref t), (2, .int (nI w)), (1, .int (nI (w2 ||| (rby S e r w)))), (3, .int (nI (r + 1)))]) [2, 3, 1, 0] rfl ?_
                exact ih_13 (r + 1) (w2 ||| (rby S e r w)) (by omega) (by rw [hw2]; show _ = jcR S e m_ w r ||| (if (m_ >>> (nI r &&& 31)) &&& nI 1 = nI 1 then rby S e r w else 0); rw [if_pos (hasI_t c30)]) (by omega)
        refine jv_lv (lv' := [(0, .ref t), (2, .int (nI w)), (1, .int (nI w)), (3, .int (nI 0))]) [2, 1, 3, 0] rfl ?_
        exact lp13_2 (S 1 + 1) 0 w (Nat.zero_le _) rfl (by omega)
  refine jv_lv (lv' := [(0, .ref t), (1, .int (nI 0)), (2, .int (-1))]) [2, 1, 0] rfl ?_
  exact lp4_1 (129 + 1) 0 (-1) (by decide) (fun V _ => sbs.zero) (Or.inl rfl) (by split <;> omega)
theorem hd_X14_areReached : jv_dd yX14_areReached 0 := by unfold jv_dd; decide +kernel
set_option maxHeartbeats 4000000 in
theorem c_X14_areReached_X15 {l : Launch} {G : jv_G} {M : jv_M} {σ : jk_A} (hG : jk_G G σ) {B : jv_M} {τ : Nat → Nat} {b t ma oa sa : Nat} {m_ : Int32} {xm_ : Int32} {e : Nat → Nat} {S : Nat → Nat} (hB : jbd G B τ b S) (hS : wfS S) (hL : wfL S) (hPP : wfP S) (hse : jse 12 [.int xm_] G B M S b t m_ ma oa sa e)   : jv_Ct G l yX14_areReached cX14_areReached 3 (some .boolean) 10 0 0 308 [.ref t] M (jv_qi G (jv_pi (bI (decide (unr S e m_ = (-1)))) M)) := by
  refine jv_Ct.of (lv := [(0, .ref t)]) (by decide) (Nat.le_of_ble_eq_true rfl) rfl ?_
  intro x Q_ hl_ hQ X
  subst hl_
  have hB0 := hB
  obtain ⟨⟨ht, hft, hnt⟩, ⟨gm, hma, hgm⟩, ⟨go, hoa, hgo⟩, ⟨gs, hsa, hgs, hfsa, hnsa⟩, he6, hms, hos, hag⟩ := id hse
  replace hB := hB.sub hag hS.1.p
  have hB_ := hB
  obtain ⟨lp, lr, la, P, R, A, hb, hfb, ⟨⟨mp_, ep, fp, hlp, hep, hn6, hfp, -, -, -⟩, hP⟩, ⟨⟨mr_, er, fr_, hlr, her, hn30, hfr_, -, -, -⟩, hR⟩, ⟨ma_, ea, fa, hla, hea, hn6a, hfa, -, -, -⟩, hA⟩ := hB
  have hW := hS.1
  have hp0 := hW.p
  have hr0 := hW.r
  have ha0 := hW.a
  have he64_ : ∀ p, p < 6 → e p < 64 := fun p hp => Nat.lt_trans (he6 p hp) (by decide)
  refine jv_aload_n X dX14_areReached_0 0 rfl ?_
  refine jv_ask (jv_runU (As := []) (rest := []) X dX14_areReached_1 (c_X14_reached_X15 hG hB0 hS hL hPP hse) (jv_cuI X (lw_U (x := yX14_reached) q1236 q1238 q1239 q1237 q122 q1243) rfl ⟨by decide, by decide⟩ hd_X14_reached (Nat.le_of_ble_eq_true rfl) (Nat.le_of_ble_eq_true rfl)) ht (show jv_cl[12]? = some (RX15, TX15, 6) from rfl) (Nat.le_of_ble_eq_true rfl) (Nat.le_of_ble_eq_true rfl) rfl (Nat.le_of_ble_eq_true rfl)) ?_
  refine jv_istore_n (lv' := [(1, .int (nI (rchT S e m_ (S 0 + 1)))), (0, .ref t)]) X dX14_areReached_4 rfl (by decide) rfl ?_
  have hrl_ := rchT_lt hW (c := e) (m := m_) (t := S 0 + 1)
  refine jv_iconst (v := nI 0) X dX14_areReached_5 rfl ?_
  refine jv_istore_n (lv' := [(2, .int (nI 0)), (1, .int (nI (rchT S e m_ (S 0 + 1)))), (0, .ref t)]) X dX14_areReached_6 rfl (by decide) rfl ?_
  have lp7_1 : ∀ (d_7 : Nat) (p : Nat), p ≤ S 0 → unr S e m_ = unrN e (rchT S e m_ (S 0 + 1)) (S 0 - p) p → S 0 - p < d_7 → jv_J x G 3 Q_ M 0 0 7 [(0, .ref t), (1, .int (nI (rchT S e m_ (S 0 + 1)))), (2, .int (nI p))] [] := by
    intro d_7
    induction d_7 with
    | zero => intro p hp hw hm_7; exact absurd hm_7 (Nat.not_lt_zero _)
    | succ d_7 ih_7 =>
      intro p hp hw hm_7
      refine jv_iload_n X dX14_areReached_7 2 rfl ?_
      refine jv_aload_n X dX14_areReached_8 0 rfl ?_
      refine jv_get X dX14_areReached_9 ht (T := TX15) (N := 6) (C := RX15) rfl in_X15 0 (by decide) q1198 rfl rfl ?_
      refine jv_getN X dX14_areReached_12 hb (T := TX1) (N := 3) (C := RX1) rfl in_X1 0 (by decide) q181 rfl rfl ?_
      refine jv_ask (jv_runV (As := []) (rest := [.int (nI p)]) X dX14_areReached_15 (c_J2_size hlp) (lw_V q1189 q284 q285 q94 q286) hd_J2_size hlp rfl (Nat.le_of_ble_eq_true rfl) (Nat.le_of_ble_eq_true rfl) (Nat.le_of_ble_eq_true rfl) (Nat.le_of_ble_eq_true rfl) rfl (Nat.le_of_ble_eq_true rfl)) ?_
      refine jn_icmp_ge 47 X dX14_areReached_18 (by decide) (by omega) (by omega) (fun c18 => ?_) (fun c18 => ?_)
      · skip
        refine jv_iconst (v := nI 1) X dX14_areReached_47 rfl ?_
        exact jv_iret (v := bI true) X dX14_areReached_48 (bI_nar _) hQ (Nat.le_of_ble_eq_true rfl) (Nat.le_of_ble_eq_true rfl) ⟨(congrArg bI (decide_eq_true (by rw [hw, show S 0 - p = 0 by omega]; rfl)).symm), rfl⟩
      · skip
        refine jv_aload_n X dX14_areReached_21 0 rfl ?_
        refine jv_get X dX14_areReached_22 ht (T := TX15) (N := 6) (C := RX15) rfl in_X15 4 (by decide) q1202 rfl rfl ?_
        refine jv_iload_n X dX14_areReached_25 2 rfl ?_
        refine jv_iald (v := nI (e p)) X dX14_areReached_26 hsa (jn_in (by omega) (by decide)) (by rw [nI_clamp (by omega)]; exact (hgs _ (by omega))) ?_
        refine jv_iconst (v := nI 5) X dX14_areReached_27 rfl ?_
        refine jn_icmp_eq 41 X dX14_areReached_28 (by decide) (Nat.lt_trans (he6 _ (by omega)) (by decide)) (by decide) (fun c28 => ?_) (fun c28 => ?_)
        · skip
          refine jv_iinc (v := nI (p + 1)) (lv' := [(2, .int (nI (p + 1))), (0, .ref t), (1, .int (nI (rchT S e m_ (S 0 + 1))))]) X dX14_areReached_41 2 rfl (nI_1 _) (by decide) rfl ?_
          refine jv_goto 7 X dX14_areReached_44 (by decide) ?_
          refine jv_lv (lv' := [(0, .ref t), (1, .int (nI (rchT S e m_ (S 0 + 1)))), (2, .int (nI (p + 1)))]) [1, 2, 0] rfl ?_
          exact ih_7 (p + 1) (by omega) (by rw [hw, show S 0 - p = (S 0 - (p + 1)) + 1 by omega, unrN, if_pos c28]) (by omega)
        · skip
          refine jv_iload_n X dX14_areReached_31 1 rfl ?_
          refine jv_iload_n X dX14_areReached_32 2 rfl ?_
          refine jv_ask (jv_runSN (As := [.int (nI (rchT S e m_ (S 0 + 1))), .int (nI p)]) (rest := []) X dX14_areReached_33 (c_X0_has (nI (rchT S e m_ (S 0 + 1))) (nI p)) (lw_meth q678) q1244 q90 q677 hd_X0_has (Nat.le_of_ble_eq_true rfl) (Nat.le_of_ble_eq_true rfl) (Nat.le_of_ble_eq_true rfl) (Nat.le_of_ble_eq_true rfl) rfl (Nat.le_of_ble_eq_true rfl)) ?_
          refine jb_if_ne 41 X dX14_areReached_36 (by decide) (fun c36 => ?_) (fun c36 => ?_)
          · skip
            refine jv_iinc (v := nI (p + 1)) (lv' := [(2, .int (nI (p + 1))), (0, .ref t), (1, .int (nI (rchT S e m_ (S 0 + 1))))]) X dX14_areReached_41 2 rfl (nI_1 _) (by decide) rfl ?_
            refine jv_goto 7 X dX14_areReached_44 (by decide) ?_
            refine jv_lv (lv' := [(0, .ref t), (1, .int (nI (rchT S e m_ (S 0 + 1)))), (2, .int (nI (p + 1)))]) [1, 2, 0] rfl ?_
            exact ih_7 (p + 1) (by omega) (by rw [hw, show S 0 - p = (S 0 - (p + 1)) + 1 by omega, unrN, if_neg c28, if_neg (fun z => by have h := hasI_b (u := rchT S e m_ (S 0 + 1)) (k := p) (by omega) (by omega); rw [c36, if_neg (by rw [z]; decide)] at h; cases h)]) (by omega)
          · skip
            refine jv_iconst (v := nI 0) X dX14_areReached_39 rfl ?_
            exact jv_iret (v := bI false) X dX14_areReached_40 (bI_nar _) hQ (Nat.le_of_ble_eq_true rfl) (Nat.le_of_ble_eq_true rfl) ⟨(congrArg bI (decide_eq_false (by rw [hw, show S 0 - p = (S 0 - (p + 1)) + 1 by omega, unrN, if_neg c28, if_pos (by have h := hasI_b (u := rchT S e m_ (S 0 + 1)) (k := p) (by omega) (by omega); rw [c36] at h; exact Classical.byContradiction fun z => by rw [if_pos (by rw [Nat.and_one_is_mod] at z ⊢; omega)] at h; cases h)]; exact nI_ne_m1 (by omega))).symm), rfl⟩
  refine jv_lv (lv' := [(0, .ref t), (1, .int (nI (rchT S e m_ (S 0 + 1)))), (2, .int (nI 0))]) [2, 1, 0] rfl ?_
  exact lp7_1 (S 0 + 1) 0 (Nat.zero_le _) rfl (by omega)
set_option maxHeartbeats 4000000 in
theorem c_X14_isAllowed_X16 {l : Launch} {G : jv_G} {M : jv_M} {σ : jk_A} (hG : jk_G G σ) {B : jv_M} {τ : Nat → Nat} {b t ma oa sa : Nat} {m_ : Int32} {e : Nat → Nat} {S : Nat → Nat} (hB : jbd G B τ b S) (hS : wfS S) (hL : wfL S) (hPP : wfP S) (hse : jse 13 [] G B M S b t m_ ma oa sa e) (p_ : Nat) (hp : p_ < S 0) : jv_Ct G l yX14_isAllowed cX14_isAllowed 4 (some .boolean) 8 0 0 260 [.ref t, .int (nI p_)] M (jv_qi G (jv_pi (bI (fit_ S m_ p_ e)) M)) := by
  refine jv_Ct.of (lv := [(0, .ref t), (1, .int (nI p_))]) (by decide) (Nat.le_of_ble_eq_true rfl) rfl ?_
  intro x Q_ hl_ hQ X
  subst hl_
  have hB0 := hB
  obtain ⟨⟨ht, hft, hnt⟩, ⟨gm, hma, hgm⟩, ⟨go, hoa, hgo⟩, ⟨gs, hsa, hgs, hfsa, hnsa⟩, he6, hms, hos, hag⟩ := id hse
  replace hB := hB.sub hag hS.1.p
  have hB_ := hB
  obtain ⟨lp, lr, la, P, R, A, hb, hfb, ⟨⟨mp_, ep, fp, hlp, hep, hn6, hfp, -, -, -⟩, hP⟩, ⟨⟨mr_, er, fr_, hlr, her, hn30, hfr_, -, -, -⟩, hR⟩, ⟨ma_, ea, fa, hla, hea, hn6a, hfa, -, -, -⟩, hA⟩ := hB
  have hW := hS.1
  have hp0 := hW.p
  have hr0 := hW.r
  have ha0 := hW.a
  have he64_ : ∀ p, p < 6 → e p < 64 := fun p hp => Nat.lt_trans (he6 p hp) (by decide)
  refine jv_iconst (v := nI 0) X dX14_isAllowed_0 rfl ?_
  refine jv_istore_n (lv' := [(2, .int (nI 0)), (0, .ref t), (1, .int (nI p_))]) X dX14_isAllowed_1 rfl (by decide) rfl ?_
  have lp2_1 : ∀ (d_2 : Nat) (i : Nat), i ≤ S 2 → asaN S p_ e i = true → S 2 - i < d_2 → jv_J x G 4 Q_ M 0 0 2 [(0, .ref t), (1, .int (nI p_)), (2, .int (nI i))] [] := by
    intro d_2
    induction d_2 with
    | zero => intro i hi hw1 hm_2; exact absurd hm_2 (Nat.not_lt_zero _)
    | succ d_2 ih_2 =>
      intro i hi hw1 hm_2
      refine jv_iload_n X dX14_isAllowed_2 2 rfl ?_
      refine jv_aload_n X dX14_isAllowed_3 0 rfl ?_
      refine jv_get X dX14_isAllowed_4 ht (T := TX16) (N := 5) (C := RX16) rfl in_X16 0 (by decide) q1198 rfl rfl ?_
      refine jv_getN X dX14_isAllowed_7 hb (T := TX1) (N := 3) (C := RX1) rfl in_X1 2 (by decide) q191 rfl rfl ?_
      refine jv_ask (jv_runV (As := []) (rest := [.int (nI i)]) X dX14_isAllowed_10 (c_J2_size hla) (lw_V q1189 q284 q285 q94 q286) hd_J2_size hla rfl (Nat.le_of_ble_eq_true rfl) (Nat.le_of_ble_eq_true rfl) (Nat.le_of_ble_eq_true rfl) (Nat.le_of_ble_eq_true rfl) rfl (Nat.le_of_ble_eq_true rfl)) ?_
      refine jn_icmp_ge 60 X dX14_isAllowed_13 (by decide) (by omega) (by omega) (fun c13 => ?_) (fun c13 => ?_)
      · skip
        refine jv_iconst (v := nI 0) X dX14_isAllowed_60 rfl ?_
        refine jv_istore_n (lv' := [(2, .int (nI 0)), (0, .ref t), (1, .int (nI p_))]) X dX14_isAllowed_61 rfl (by decide) rfl ?_
        have lp62_2 : ∀ (d_62 : Nat) (r : Nat), r ≤ S 1 → fitN S m_ p_ e r = true → S 1 - r < d_62 → jv_J x G 4 Q_ M 0 0 62 [(0, .ref t), (1, .int (nI p_)), (2, .int (nI r))] [] := by
          intro d_62
          induction d_62 with
          | zero => intro r hr hw2 hm_62; exact absurd hm_62 (Nat.not_lt_zero _)
          | succ d_62 ih_62 =>
            intro r hr hw2 hm_62
            refine jv_iload_n X dX14_isAllowed_62 2 rfl ?_
            refine jv_aload_n X dX14_isAllowed_63 0 rfl ?_
            refine jv_get X dX14_isAllowed_64 ht (T := TX16) (N := 5) (C := RX16) rfl in_X16 1 (by decide) q1199 rfl rfl ?_
            refine jv_alen (t0 := 0) (v := nI (S 1)) X dX14_isAllowed_67 hma rfl rfl ?_
            refine jn_icmp_ge 130 X dX14_isAllowed_68 (by decide) (by omega) (by omega) (fun c68 => ?_) (fun c68 => ?_)
            · skip
              refine jv_iconst (v := nI 1) X dX14_isAllowed_130 rfl ?_
              exact jv_iret (v := bI true) X dX14_isAllowed_131 (bI_nar _) hQ (Nat.le_of_ble_eq_true rfl) (Nat.le_of_ble_eq_true rfl) ⟨(congrArg bI (show true = fit_ S m_ p_ e by unfold fit_; rw [← hw2, show r = S 1 by omega])), rfl⟩
            · skip
              refine jv_aload_n X dX14_isAllowed_71 0 rfl ?_
              refine jv_get X dX14_isAllowed_72 ht (T := TX16) (N := 5) (C := RX16) rfl in_X16 0 (by decide) q1198 rfl rfl ?_
              refine jv_getN X dX14_isAllowed_75 hb (T := TX1) (N := 3) (C := RX1) rfl in_X1 1 (by decide) q187 rfl rfl ?_
              refine jv_iload_n X dX14_isAllowed_78 2 rfl ?_
              refine jv_callr (jv_runV (As := [.int (nI r)]) (rest := []) X dX14_isAllowed_79 (c_J2_get hlr her r (R r) (by omega) (by omega) (by omega) (by rw [hfr_ _ (by omega)]; rfl)) (lw_V q1190 q533 q534 q94 q535) hd_J2_get hlr rfl (Nat.le_of_ble_eq_true rfl) (Nat.le_of_ble_eq_true rfl) (Nat.le_of_ble_eq_true rfl) (Nat.le_of_ble_eq_true rfl) rfl (Nat.le_of_ble_eq_true rfl)) (fun rr_ M_ h_ => ?_)
              obtain ⟨hr_, hm_⟩ := h_
              rw [hr_, hm_]
              clear hr_ hm_
              refine jr_cast X dX14_isAllowed_82 q1245 (hR r (by omega)) ?_
              refine jv_astore_n (lv' := [(3, .ref (R r)), (0, .ref t), (1, .int (nI p_)), (2, .int (nI r))]) X dX14_isAllowed_85 rfl (by decide) rfl ?_
              refine jv_aload_n X dX14_isAllowed_86 1 rfl ?_
              refine jv_get X dX14_isAllowed_87 ht (T := TX16) (N := 5) (C := RX16) rfl in_X16 3 (by decide) q1201 rfl rfl ?_
              refine jv_iload_n X dX14_isAllowed_90 3 rfl ?_
              refine jv_ask (jv_runSN (As := [.int m_, .int (nI r)]) (rest := []) X dX14_isAllowed_91 (c_X0_has m_ (nI r)) (lw_meth q678) q1244 q90 q677 hd_X0_has (Nat.le_of_ble_eq_true rfl) (Nat.le_of_ble_eq_true rfl) (Nat.le_of_ble_eq_true rfl) (Nat.le_of_ble_eq_true rfl) rfl (Nat.le_of_ble_eq_true rfl)) ?_
              refine jb_if_eq 124 X dX14_isAllowed_94 (by decide) (fun c94 => ?_) (fun c94 => ?_)
              · skip
                refine jv_iinc (v := nI (r + 1)) (lv' := [(2, .int (nI (r + 1))), (3, .ref (R r)), (0, .ref t), (1, .int (nI p_))]) X dX14_isAllowed_124 3 rfl (nI_1 _) (by decide) rfl ?_
                refine jv_goto 62 X dX14_isAllowed_127 (by decide) ?_
                refine jv_lv (lv' := [(0, .ref t), (1, .int (nI p_)), (2, .int (nI (r + 1)))]) [2, 3, 0] rfl ?_
                exact ih_62 (r + 1) (by omega) (by unfold fitN fit1; rw [if_pos hw2, if_pos (hasI_f0 c94)]) (by omega)
              · skip
                refine jv_aload_n X dX14_isAllowed_97 0 rfl ?_
                refine jv_ask (jr_last (rest := []) X dX14_isAllowed_98 q1298 (hR r (by omega)) hW (by omega) (wl_x hW hL (by omega)) (Nat.le_of_ble_eq_true rfl) (Nat.le_of_ble_eq_true rfl) (Nat.le_of_ble_eq_true rfl) (Nat.le_of_ble_eq_true rfl) (Nat.le_of_ble_eq_true rfl)) ?_
                refine jv_iload_n X dX14_isAllowed_101 2 rfl ?_
                refine jn_icmp_ne 124 X dX14_isAllowed_102 (by decide) (by have := lst_6 hW (show r < 30 by omega); omega) (by omega) (fun c102 => ?_) (fun c102 => ?_)
                · skip
                  refine jv_iinc (v := nI (r + 1)) (lv' := [(2, .int (nI (r + 1))), (3, .ref (R r)), (0, .ref t), (1, .int (nI p_))]) X dX14_isAllowed_124 3 rfl (nI_1 _) (by decide) rfl ?_
                  refine jv_goto 62 X dX14_isAllowed_127 (by decide) ?_
                  refine jv_lv (lv' := [(0, .ref t), (1, .int (nI p_)), (2, .int (nI (r + 1)))]) [2, 3, 0] rfl ?_
                  exact ih_62 (r + 1) (by omega) (by unfold fitN fit1; rw [if_pos hw2, if_neg (hasI_t0 c94), if_neg c102]) (by omega)
                · skip
                  refine jv_aload_n X dX14_isAllowed_105 0 rfl ?_
                  refine jv_aload_n X dX14_isAllowed_106 1 rfl ?_
                  refine jv_get X dX14_isAllowed_107 ht (T := TX16) (N := 5) (C := RX16) rfl in_X16 1 (by decide) q1199 rfl rfl ?_
                  refine jv_iload_n X dX14_isAllowed_110 3 rfl ?_
                  refine jv_iald (v := nI (msk S r)) X dX14_isAllowed_111 hma (jn_in (by omega) (by omega)) (by rw [nI_clamp (by omega)]; exact (hgm _ (by omega))) ?_
                  refine jv_aload_n X dX14_isAllowed_112 1 rfl ?_
                  refine jv_get X dX14_isAllowed_113 ht (T := TX16) (N := 5) (C := RX16) rfl in_X16 4 (by decide) q1202 rfl rfl ?_
                  refine jv_ask (jr_isKept (rest := []) X dX14_isAllowed_116 q1312 (hR r (by omega)) hW (by omega) hL (by omega) hsa hgs he64_ he6 (Nat.le_of_ble_eq_true rfl) (Nat.le_of_ble_eq_true rfl) (Nat.le_of_ble_eq_true rfl) (Nat.le_of_ble_eq_true rfl) (Nat.le_of_ble_eq_true rfl)) ?_
                  refine jb_if_ne 124 X dX14_isAllowed_119 (by decide) (fun c119 => ?_) (fun c119 => ?_)
                  · skip
                    refine jv_iinc (v := nI (r + 1)) (lv' := [(2, .int (nI (r + 1))), (3, .ref (R r)), (0, .ref t), (1, .int (nI p_))]) X dX14_isAllowed_124 3 rfl (nI_1 _) (by decide) rfl ?_
                    refine jv_goto 62 X dX14_isAllowed_127 (by decide) ?_
                    refine jv_lv (lv' := [(0, .ref t), (1, .int (nI p_)), (2, .int (nI (r + 1)))]) [2, 3, 0] rfl ?_
                    exact ih_62 (r + 1) (by omega) (by unfold fitN fit1; rw [if_pos hw2, if_neg (hasI_t0 c94), if_pos c102, c119, if_pos rfl]) (by omega)
                  · skip
                    refine jv_iconst (v := nI 0) X dX14_isAllowed_122 rfl ?_
                    exact jv_iret (v := bI false) X dX14_isAllowed_123 (bI_nar _) hQ (Nat.le_of_ble_eq_true rfl) (Nat.le_of_ble_eq_true rfl) ⟨(congrArg bI (show false = fit_ S m_ p_ e from (fitN_f (r := r + 1) (by unfold fitN fit1; rw [if_pos hw2, if_neg (hasI_t0 c94), if_pos c102, c119]; rfl) (by omega)).symm)), rfl⟩
        refine jv_lv (lv' := [(0, .ref t), (1, .int (nI p_)), (2, .int (nI 0))]) [1, 2, 0] rfl ?_
        exact lp62_2 (S 1 + 1) 0 (Nat.zero_le _) (show asaN S p_ e (S 2) = true by rw [← hw1, show i = S 2 by omega]) (by omega)
      · skip
        refine jv_aload_n X dX14_isAllowed_16 0 rfl ?_
        refine jv_get X dX14_isAllowed_17 ht (T := TX16) (N := 5) (C := RX16) rfl in_X16 0 (by decide) q1198 rfl rfl ?_
        refine jv_getN X dX14_isAllowed_20 hb (T := TX1) (N := 3) (C := RX1) rfl in_X1 2 (by decide) q191 rfl rfl ?_
        refine jv_iload_n X dX14_isAllowed_23 2 rfl ?_
        refine jv_callr (jv_runV (As := [.int (nI i)]) (rest := []) X dX14_isAllowed_24 (c_J2_get hla hea i (A i) (by omega) (by omega) (by omega) (by rw [hfa _ (by omega)]; rfl)) (lw_V q1190 q533 q534 q94 q535) hd_J2_get hla rfl (Nat.le_of_ble_eq_true rfl) (Nat.le_of_ble_eq_true rfl) (Nat.le_of_ble_eq_true rfl) (Nat.le_of_ble_eq_true rfl) rfl (Nat.le_of_ble_eq_true rfl)) (fun rr_ M_ h_ => ?_)
        obtain ⟨hr_, hm_⟩ := h_
        rw [hr_, hm_]
        clear hr_ hm_
        refine jv_castS X dX14_isAllowed_27 (hA i (by omega)).2 (r := (RX12, TX12, 2)) rfl q1297 ?_
        refine jv_astore_n (lv' := [(3, .ref (A i)), (0, .ref t), (1, .int (nI p_)), (2, .int (nI i))]) X dX14_isAllowed_30 rfl (by decide) rfl ?_
        refine jv_aload_n X dX14_isAllowed_31 0 rfl ?_
        refine jv_getN X dX14_isAllowed_32 (hA i (by omega)).2 (T := TX12) (N := 2) (C := RX12) rfl in_X12 0 (by decide) q1114 rfl rfl ?_
        refine jv_iload_n X dX14_isAllowed_35 2 rfl ?_
        refine jn_icmp_ne 54 X dX14_isAllowed_36 (by decide) (by have := hW.a0 (show i < 6 by omega); omega) (by omega) (fun c36 => ?_) (fun c36 => ?_)
        · skip
          refine jv_iinc (v := nI (i + 1)) (lv' := [(2, .int (nI (i + 1))), (3, .ref (A i)), (0, .ref t), (1, .int (nI p_))]) X dX14_isAllowed_54 3 rfl (nI_1 _) (by decide) rfl ?_
          refine jv_goto 2 X dX14_isAllowed_57 (by decide) ?_
          refine jv_lv (lv' := [(0, .ref t), (1, .int (nI p_)), (2, .int (nI (i + 1)))]) [2, 3, 0] rfl ?_
          exact ih_2 (i + 1) (by omega) (by unfold asaN; rw [hw1, Bool.true_and, if_neg c36]) (by omega)
        · skip
          refine jv_aload_n X dX14_isAllowed_39 0 rfl ?_
          refine jv_getN X dX14_isAllowed_40 (hA i (by omega)).2 (T := TX12) (N := 2) (C := RX12) rfl in_X12 1 (by decide) q1120 rfl rfl ?_
          refine jv_aload_n X dX14_isAllowed_43 1 rfl ?_
          refine jv_get X dX14_isAllowed_44 ht (T := TX16) (N := 5) (C := RX16) rfl in_X16 4 (by decide) q1202 rfl rfl ?_
          refine jv_iload_n X dX14_isAllowed_47 2 rfl ?_
          refine jv_iald (v := nI (e p_)) X dX14_isAllowed_48 hsa (jn_in (by omega) (by decide)) (by rw [nI_clamp (by omega)]; exact (hgs _ (by omega))) ?_
          refine jn_icmp_eq 54 X dX14_isAllowed_49 (by decide) (by have := hW.a1 (show i < 6 by omega); omega) (Nat.lt_trans (he6 _ (by omega)) (by decide)) (fun c49 => ?_) (fun c49 => ?_)
          · skip
            refine jv_iinc (v := nI (i + 1)) (lv' := [(2, .int (nI (i + 1))), (3, .ref (A i)), (0, .ref t), (1, .int (nI p_))]) X dX14_isAllowed_54 3 rfl (nI_1 _) (by decide) rfl ?_
            refine jv_goto 2 X dX14_isAllowed_57 (by decide) ?_
            refine jv_lv (lv' := [(0, .ref t), (1, .int (nI p_)), (2, .int (nI (i + 1)))]) [2, 3, 0] rfl ?_
            exact ih_2 (i + 1) (by omega) (by unfold asaN; rw [hw1, Bool.true_and, if_pos c36, if_pos c49]) (by omega)
          · skip
            refine jv_iconst (v := nI 0) X dX14_isAllowed_52 rfl ?_
            exact jv_iret (v := bI false) X dX14_isAllowed_53 (bI_nar _) hQ (Nat.le_of_ble_eq_true rfl) (Nat.le_of_ble_eq_true rfl) ⟨(congrArg bI (show false = fit_ S m_ p_ e from (fitN_f (r := 0) (asaN_f c36 (fun z => c49 z) (by omega)) (Nat.zero_le _)).symm)), rfl⟩
  refine jv_lv (lv' := [(0, .ref t), (1, .int (nI p_)), (2, .int (nI 0))]) [1, 2, 0] rfl ?_
  exact lp2_1 (S 2 + 1) 0 (Nat.zero_le _) rfl (by omega)
set_option maxHeartbeats 4000000 in
theorem c_X14_reachedBy_X16 {l : Launch} {G : jv_G} {M : jv_M} {σ : jk_A} (hG : jk_G G σ) {B : jv_M} {τ : Nat → Nat} {b t ma oa sa : Nat} {m_ : Int32} {e : Nat → Nat} {S : Nat → Nat} (hB : jbd G B τ b S) (hS : wfS S) (hL : wfL S) (hPP : wfP S) (hse : jse 13 [] G B M S b t m_ ma oa sa e) (r : Nat) (a_ : Nat) (w_ : Nat) (hr : r < S 1) (ha_ : jrule G M τ S r a_) (hw_ : w_ < 64) : jv_Ct G l yX14_reachedBy cX14_reachedBy 6 (some .int) 8 0 0 260 [.ref t, .ref a_, .int (nI w_)] M (jv_qi G (jv_pi (nI (rby S e r w_)) M)) := by
  refine jv_Ct.of (lv := [(0, .ref t), (1, .ref a_), (2, .int (nI w_))]) (by decide) (Nat.le_of_ble_eq_true rfl) rfl ?_
  intro x Q_ hl_ hQ X
  subst hl_
  have hB0 := hB
  obtain ⟨⟨ht, hft, hnt⟩, ⟨gm, hma, hgm⟩, ⟨go, hoa, hgo⟩, ⟨gs, hsa, hgs, hfsa, hnsa⟩, he6, hms, hos, hag⟩ := id hse
  replace hB := hB.sub hag hS.1.p
  have hB_ := hB
  obtain ⟨lp, lr, la, P, R, A, hb, hfb, ⟨⟨mp_, ep, fp, hlp, hep, hn6, hfp, -, -, -⟩, hP⟩, ⟨⟨mr_, er, fr_, hlr, her, hn30, hfr_, -, -, -⟩, hR⟩, ⟨ma_, ea, fa, hla, hea, hn6a, hfa, -, -, -⟩, hA⟩ := hB
  have hW := hS.1
  have hp0 := hW.p
  have hr0 := hW.r
  have ha0 := hW.a
  have he64_ : ∀ p, p < 6 → e p < 64 := fun p hp => Nat.lt_trans (he6 p hp) (by decide)
  have hr1_ := hW.r1 (show r < 30 by omega)
  have hr3_ := hW.r3 (show r < 30 by omega)
  refine jv_aload_n X dX14_reachedBy_0 1 rfl ?_
  refine jv_ask (jr_wanted (rest := []) X dX14_reachedBy_1 q1250 ha_ (Nat.le_of_ble_eq_true rfl) (Nat.le_of_ble_eq_true rfl) (Nat.le_of_ble_eq_true rfl) (Nat.le_of_ble_eq_true rfl) (Nat.le_of_ble_eq_true rfl)) ?_
  refine jv_if_lt 14 X dX14_reachedBy_4 (by decide) (fun c4 => ?_) (fun c4 => ?_)
  · skip
    have hk0_ := rWan_lt hr1_ c4
    refine jv_iconst (v := nI 0) X dX14_reachedBy_14 rfl ?_
    refine jv_istore_n (lv' := [(3, .int (nI 0)), (0, .ref t), (1, .ref a_), (2, .int (nI w_))]) X dX14_reachedBy_15 rfl (by decide) rfl ?_
    refine jv_iconst (v := nI 0) X dX14_reachedBy_16 rfl ?_
    refine jv_istore (lv' := [(4, .int (nI 0)), (3, .int (nI 0)), (0, .ref t), (1, .ref a_), (2, .int (nI w_))]) X dX14_reachedBy_17 (by decide) rfl ?_
    have lp19_1 : ∀ (d_19 : Nat) (p : Nat) (w : Nat), p ≤ S 0 → w = rbP S e r w_ p → S 0 - p < d_19 → jv_J x G 6 Q_ M 0 0 19 [(0, .ref t), (1, .ref a_), (2, .int (nI w_)), (3, .int (nI w)), (4, .int (nI p))] [] := by
      intro d_19
      induction d_19 with
      | zero => intro p w hp hw hm_19; exact absurd hm_19 (Nat.not_lt_zero _)
      | succ d_19 ih_19 =>
        intro p w hp hw hm_19
        refine jv_iload X dX14_reachedBy_19 4 rfl ?_
        refine jv_aload_n X dX14_reachedBy_21 0 rfl ?_
        refine jv_get X dX14_reachedBy_22 ht (T := TX16) (N := 5) (C := RX16) rfl in_X16 0 (by decide) q1198 rfl rfl ?_
        refine jv_getN X dX14_reachedBy_25 hb (T := TX1) (N := 3) (C := RX1) rfl in_X1 0 (by decide) q181 rfl rfl ?_
        refine jv_ask (jv_runV (As := []) (rest := [.int (nI p)]) X dX14_reachedBy_28 (c_J2_size hlp) (lw_V q1189 q284 q285 q94 q286) hd_J2_size hlp rfl (Nat.le_of_ble_eq_true rfl) (Nat.le_of_ble_eq_true rfl) (Nat.le_of_ble_eq_true rfl) (Nat.le_of_ble_eq_true rfl) rfl (Nat.le_of_ble_eq_true rfl)) ?_
        refine jn_icmp_ge 84 X dX14_reachedBy_31 (by decide) (by omega) (by omega) (fun c31 => ?_) (fun c31 => ?_)
        · skip
          refine jv_iload_n X dX14_reachedBy_84 3 rfl ?_
          exact jv_iret (v := nI w) X dX14_reachedBy_85 rfl hQ (Nat.le_of_ble_eq_true rfl) (Nat.le_of_ble_eq_true rfl) ⟨(congrArg nI (by unfold rby; rw [if_neg hk0_, hw, show p = S 0 by omega])), rfl⟩
        · skip
          refine jv_iload_n X dX14_reachedBy_34 2 rfl ?_
          refine jv_iload X dX14_reachedBy_35 4 rfl ?_
          refine jv_ask (jv_runSN (As := [.int (nI w_), .int (nI p)]) (rest := []) X dX14_reachedBy_37 (c_X0_has (nI w_) (nI p)) (lw_meth q678) q1244 q90 q677 hd_X0_has (Nat.le_of_ble_eq_true rfl) (Nat.le_of_ble_eq_true rfl) (Nat.le_of_ble_eq_true rfl) (Nat.le_of_ble_eq_true rfl) rfl (Nat.le_of_ble_eq_true rfl)) ?_
          refine jb_if_eq 59 X dX14_reachedBy_40 (by decide) (fun c40 => ?_) (fun c40 => ?_)
          · skip
            refine jv_iconst (v := (-1)) X dX14_reachedBy_59 rfl ?_
            refine jv_istore (lv' := [(5, .int (-1)), (0, .ref t), (1, .ref a_), (2, .int (nI w_)), (3, .int (nI w)), (4, .int (nI p))]) X dX14_reachedBy_60 (by decide) rfl ?_
            refine jv_iload_n X dX14_reachedBy_62 4 rfl ?_
            refine jv_iload X dX14_reachedBy_63 0 rfl ?_
            refine jv_if_lt 75 X dX14_reachedBy_65 (by decide) (fun c65 => ?_) (fun c65 => ?_)
            · skip
              refine jv_iconst (v := nI 0) X dX14_reachedBy_75 rfl ?_
              refine jv_ior (w := nI (w ||| 0)) X dX14_reachedBy_76 (ni_or _ _) ?_
              refine jv_istore_n (lv' := [(3, .int (nI (w ||| 0))), (5, .int (-1)), (0, .ref t), (1, .ref a_), (2, .int (nI w_)), (4, .int (nI p))]) X dX14_reachedBy_77 rfl (by decide) rfl ?_
              refine jv_iinc (v := nI (p + 1)) (lv' := [(4, .int (nI (p + 1))), (3, .int (nI (w ||| 0))), (5, .int (-1)), (0, .ref t), (1, .ref a_), (2, .int (nI w_))]) X dX14_reachedBy_78 5 rfl (nI_1 _) (by decide) rfl ?_
              refine jv_goto 19 X dX14_reachedBy_81 (by decide) ?_
              refine jv_lv (lv' := [(0, .ref t), (1, .ref a_), (2, .int (nI w_)), (3, .int (nI (w ||| 0))), (4, .int (nI (p + 1)))]) [3, 4, 5, 1, 0] rfl ?_
              exact ih_19 (p + 1) (w ||| 0) (by omega) (by rw [hw]; show _ = rbP S e r w_ p ||| (if w_ / 2 ^ p &&& 1 = 1 then (if v_ofRule S r 0 = 1 then (if v_ofRule S r 1 = p ∧ v_ofRule S r 2 = e p then 2 ^ v_ofRule S r 3 else 0) else 0) else 0); rw [if_neg (fun z => by have := hasI_b (u := w_) (k := p) (by omega) (by omega); rw [c40, if_pos z] at this; cases this)]) (by omega)
            · skip
              exact (absurd (by decide) c65)
          · skip
            refine jv_aload_n X dX14_reachedBy_43 1 rfl ?_
            refine jv_iload X dX14_reachedBy_44 4 rfl ?_
            refine jv_aload_n X dX14_reachedBy_46 0 rfl ?_
            refine jv_get X dX14_reachedBy_47 ht (T := TX16) (N := 5) (C := RX16) rfl in_X16 4 (by decide) q1202 rfl rfl ?_
            refine jv_iload X dX14_reachedBy_50 4 rfl ?_
            refine jv_iald (v := nI (e p)) X dX14_reachedBy_52 hsa (jn_in (by omega) (by decide)) (by rw [nI_clamp (by omega)]; exact (hgs _ (by omega))) ?_
            refine jv_ask (jr_reaches (rest := []) X dX14_reachedBy_53 q1260 ha_ hW (by omega) p (e p) (by omega) (Nat.lt_trans (he6 _ (by omega)) (by decide)) (Nat.le_of_ble_eq_true rfl) (Nat.le_of_ble_eq_true rfl) (Nat.le_of_ble_eq_true rfl) (Nat.le_of_ble_eq_true rfl) (Nat.le_of_ble_eq_true rfl)) ?_
            refine jv_goto 60 X dX14_reachedBy_56 (by decide) ?_
            refine jv_istore (lv' := [(5, .int (rRea S r p (e p))), (0, .ref t), (1, .ref a_), (2, .int (nI w_)), (3, .int (nI w)), (4, .int (nI p))]) X dX14_reachedBy_60 (by decide) rfl ?_
            refine jv_iload_n X dX14_reachedBy_62 4 rfl ?_
            refine jv_iload X dX14_reachedBy_63 0 rfl ?_
            refine jv_if_lt 75 X dX14_reachedBy_65 (by decide) (fun c65 => ?_) (fun c65 => ?_)
            · skip
              refine jv_iconst (v := nI 0) X dX14_reachedBy_75 rfl ?_
              refine jv_ior (w := nI (w ||| 0)) X dX14_reachedBy_76 (ni_or _ _) ?_
              refine jv_istore_n (lv' := [(3, .int (nI (w ||| 0))), (5, .int (rRea S r p (e p))), (0, .ref t), (1, .ref a_), (2, .int (nI w_)), (4, .int (nI p))]) X dX14_reachedBy_77 rfl (by decide) rfl ?_
              refine jv_iinc (v := nI (p + 1)) (lv' := [(4, .int (nI (p + 1))), (3, .int (nI (w ||| 0))), (5, .int (rRea S r p (e p))), (0, .ref t), (1, .ref a_), (2, .int (nI w_))]) X dX14_reachedBy_78 5 rfl (nI_1 _) (by decide) rfl ?_
              refine jv_goto 19 X dX14_reachedBy_81 (by decide) ?_
              refine jv_lv (lv' := [(0, .ref t), (1, .ref a_), (2, .int (nI w_)), (3, .int (nI (w ||| 0))), (4, .int (nI (p + 1)))]) [3, 4, 5, 1, 0] rfl ?_
              exact ih_19 (p + 1) (w ||| 0) (by omega) (by rw [hw]; show _ = rbP S e r w_ p ||| (if w_ / 2 ^ p &&& 1 = 1 then (if v_ofRule S r 0 = 1 then (if v_ofRule S r 1 = p ∧ v_ofRule S r 2 = e p then 2 ^ v_ofRule S r 3 else 0) else 0) else 0); rw [if_pos (by have := hasI_b (u := w_) (k := p) (by omega) (by omega); rw [c40] at this; exact Classical.byContradiction fun z => by rw [if_neg z] at this; cases this)]; by_cases e1 : v_ofRule S r 0 = 1; rw [if_pos e1, if_neg (rRea_lt hr3_ c65 e1)]; rw [if_neg e1]) (by omega)
            · skip
              have hq_ := rRea_ge c65
              rw [hq_.2.2]
              refine jv_iconst (v := nI 1) X dX14_reachedBy_68 rfl ?_
              refine jv_iload X dX14_reachedBy_69 0 rfl ?_
              refine jv_ishl (w := nI (2 ^ (v_ofRule S r 3))) X dX14_reachedBy_71 (ni_shl1 (by omega)) ?_
              refine jv_goto 76 X dX14_reachedBy_72 (by decide) ?_
              refine jv_ior (w := nI (w ||| (2 ^ (v_ofRule S r 3)))) X dX14_reachedBy_76 (ni_or _ _) ?_
              refine jv_istore_n (lv' := [(3, .int (nI (w ||| (2 ^ (v_ofRule S r 3))))), (5, .int (nI (v_ofRule S r 3))), (0, .ref t), (1, .ref a_), (2, .int (nI w_)), (4, .int (nI p))]) X dX14_reachedBy_77 rfl (by decide) rfl ?_
              refine jv_iinc (v := nI (p + 1)) (lv' := [(4, .int (nI (p + 1))), (3, .int (nI (w ||| (2 ^ (v_ofRule S r 3))))), (5, .int (nI (v_ofRule S r 3))), (0, .ref t), (1, .ref a_), (2, .int (nI w_))]) X dX14_reachedBy_78 5 rfl (nI_1 _) (by decide) rfl ?_
              refine jv_goto 19 X dX14_reachedBy_81 (by decide) ?_
              refine jv_lv (lv' := [(0, .ref t), (1, .ref a_), (2, .int (nI w_)), (3, .int (nI (w ||| (2 ^ (v_ofRule S r 3))))), (4, .int (nI (p + 1)))]) [3, 4, 5, 1, 0] rfl ?_
              exact ih_19 (p + 1) (w ||| (2 ^ (v_ofRule S r 3))) (by omega) (by rw [hw]; show _ = rbP S e r w_ p ||| (if w_ / 2 ^ p &&& 1 = 1 then (if v_ofRule S r 0 = 1 then (if v_ofRule S r 1 = p ∧ v_ofRule S r 2 = e p then 2 ^ v_ofRule S r 3 else 0) else 0) else 0); rw [if_pos (by have := hasI_b (u := w_) (k := p) (by omega) (by omega); rw [c40] at this; exact Classical.byContradiction fun z => by rw [if_neg z] at this; cases this), if_pos hq_.1, if_pos hq_.2.1]) (by omega)
    refine jv_lv (lv' := [(0, .ref t), (1, .ref a_), (2, .int (nI w_)), (3, .int (nI 0)), (4, .int (nI 0))]) [2, 3, 4, 1, 0] rfl ?_
    exact lp19_1 (S 0 + 1) 0 0 (Nat.zero_le _) rfl (by omega)
  · skip
    refine jv_iconst (v := nI 1) X dX14_reachedBy_7 rfl ?_
    refine jv_aload_n X dX14_reachedBy_8 1 rfl ?_
    refine jv_ask (jr_wanted (rest := [.int (nI 1)]) X dX14_reachedBy_9 q1250 ha_ (Nat.le_of_ble_eq_true rfl) (Nat.le_of_ble_eq_true rfl) (Nat.le_of_ble_eq_true rfl) (Nat.le_of_ble_eq_true rfl) (Nat.le_of_ble_eq_true rfl)) ?_
    have hq_ := rWan_ge c4
    rw [hq_.2]
    refine jv_ishl (w := nI (2 ^ (v_ofRule S r 1))) X dX14_reachedBy_12 (ni_shl1 (by omega)) ?_
    exact jv_iret (v := nI (2 ^ (v_ofRule S r 1))) X dX14_reachedBy_13 rfl hQ (Nat.le_of_ble_eq_true rfl) (Nat.le_of_ble_eq_true rfl) ⟨(congrArg nI (by unfold rby; rw [if_pos hq_.1])), rfl⟩
set_option maxHeartbeats 4000000 in
theorem c_X14_reached_X16 {l : Launch} {G : jv_G} {M : jv_M} {σ : jk_A} (hG : jk_G G σ) {B : jv_M} {τ : Nat → Nat} {b t ma oa sa : Nat} {m_ : Int32} {e : Nat → Nat} {S : Nat → Nat} (hB : jbd G B τ b S) (hS : wfS S) (hL : wfL S) (hPP : wfP S) (hse : jse 13 [] G B M S b t m_ ma oa sa e)   : jv_Ct G l yX14_reached cX14_reached 4 (some .int) 9 0 0 285 [.ref t] M (jv_qi G (jv_pi (nI (rchT S e m_ (S 0 + 1))) M)) := by
  refine jv_Ct.of (lv := [(0, .ref t)]) (by decide) (Nat.le_of_ble_eq_true rfl) rfl ?_
  intro x Q_ hl_ hQ X
  subst hl_
  have hB0 := hB
  obtain ⟨⟨ht, hft, hnt⟩, ⟨gm, hma, hgm⟩, ⟨go, hoa, hgo⟩, ⟨gs, hsa, hgs, hfsa, hnsa⟩, he6, hms, hos, hag⟩ := id hse
  replace hB := hB.sub hag hS.1.p
  have hB_ := hB
  obtain ⟨lp, lr, la, P, R, A, hb, hfb, ⟨⟨mp_, ep, fp, hlp, hep, hn6, hfp, -, -, -⟩, hP⟩, ⟨⟨mr_, er, fr_, hlr, her, hn30, hfr_, -, -, -⟩, hR⟩, ⟨ma_, ea, fa, hla, hea, hn6a, hfa, -, -, -⟩, hA⟩ := hB
  have hW := hS.1
  have hp0 := hW.p
  have hr0 := hW.r
  have ha0 := hW.a
  have he64_ : ∀ p, p < 6 → e p < 64 := fun p hp => Nat.lt_trans (he6 p hp) (by decide)
  refine jv_iconst (v := nI 0) X dX14_reached_0 rfl ?_
  refine jv_istore_n (lv' := [(1, .int (nI 0)), (0, .ref t)]) X dX14_reached_1 rfl (by decide) rfl ?_
  refine jv_iconst (v := (-1)) X dX14_reached_2 rfl ?_
  refine jv_istore_n (lv' := [(2, .int (-1)), (1, .int (nI 0)), (0, .ref t)]) X dX14_reached_3 rfl (by decide) rfl ?_
  have lp4_1 : ∀ (d_4 : Nat) (w : Nat) (x_ : Int32), w < 64 → (∀ V, rcl S e m_ V → sbs w V) → (x_ = (-1) ∨ ∃ u, u < 64 ∧ x_ = nI u ∧ w = jcR S e m_ u (S 1)) → 2 * (64 - w) + (if x_ = nI w then 0 else 1) < d_4 → jv_J x G 4 Q_ M 0 0 4 [(0, .ref t), (1, .int (nI w)), (2, .int x_)] [] := by
    intro d_4
    induction d_4 with
    | zero => intro w x_ hw hmn hx_ hm_4; exact absurd hm_4 (Nat.not_lt_zero _)
    | succ d_4 ih_4 =>
      intro w x_ hw hmn hx_ hm_4
      refine jv_iload_n X dX14_reached_4 1 rfl ?_
      refine jv_iload_n X dX14_reached_5 2 rfl ?_
      refine jv_icmp_eq 64 X dX14_reached_6 (by decide) (fun c6 => ?_) (fun c6 => ?_)
      · skip
        refine jv_iload_n X dX14_reached_64 1 rfl ?_
        exact jv_iret (v := nI w) X dX14_reached_65 rfl hQ (Nat.le_of_ble_eq_true rfl) (Nat.le_of_ble_eq_true rfl) ⟨(congrArg nI (by rcases hx_ with z | ⟨u, hu, z, z2⟩; exact absurd (c6.trans z) (nI_ne_m1 (by omega)); have h5 : w = u := (nI_eq (by omega) (by omega)).mp (c6.trans z); subst h5; exact rch_e hS z2.symm hmn)), rfl⟩
      · skip
        refine jv_iload_n X dX14_reached_9 1 rfl ?_
        refine jv_istore_n (lv' := [(2, .int (nI w)), (0, .ref t), (1, .int (nI w))]) X dX14_reached_10 rfl (by decide) rfl ?_
        refine jv_iconst (v := nI 0) X dX14_reached_11 rfl ?_
        refine jv_istore_n (lv' := [(3, .int (nI 0)), (2, .int (nI w)), (0, .ref t), (1, .int (nI w))]) X dX14_reached_12 rfl (by decide) rfl ?_
        have lp13_2 : ∀ (d_13 : Nat) (r : Nat) (w2 : Nat), r ≤ S 1 → w2 = jcR S e m_ w r → S 1 - r < d_13 → jv_J x G 4 Q_ M 0 0 13 [(0, .ref t), (2, .int (nI w)), (1, .int (nI w2)), (3, .int (nI r))] [] := by
          intro d_13
          induction d_13 with
          | zero => intro r w2 hr hw2 hm_13; exact absurd hm_13 (Nat.not_lt_zero _)
          | succ d_13 ih_13 =>
            intro r w2 hr hw2 hm_13
            refine jv_iload_n X dX14_reached_13 3 rfl ?_
            refine jv_aload_n X dX14_reached_14 0 rfl ?_
            refine jv_get X dX14_reached_15 ht (T := TX16) (N := 5) (C := RX16) rfl in_X16 1 (by decide) q1199 rfl rfl ?_
            refine jv_alen (t0 := 0) (v := nI (S 1)) X dX14_reached_18 hma rfl rfl ?_
            refine jn_icmp_ge 61 X dX14_reached_19 (by decide) (by omega) (by omega) (fun c19 => ?_) (fun c19 => ?_)
            · skip
              refine jv_goto 4 X dX14_reached_61 (by decide) ?_
              refine jv_lv (lv' := [(0, .ref t), (1, .int (nI w2)), (2, .int (nI w))]) [0, 2, 1] rfl ?_
              exact ih_4 w2 (nI w) (by rw [hw2]; exact jcR_lt hW hw _ (by omega)) (fun V hV => by rw [hw2]; exact jcR_min hV (hmn V hV) _ (by omega)) (Or.inr ⟨w, hw, rfl, by rw [hw2, show r = S 1 by omega]⟩) (by have h1 := (jcR_up S e m_ w r).le; rw [← hw2] at h1; have h3 : w2 < 64 := (by rw [hw2]; exact jcR_lt hW hw _ (by omega)); rw [if_neg (fun z => c6 z.symm)] at hm_4; by_cases h4 : w2 = w; rw [h4, if_pos rfl]; omega; have : (if nI w = nI w2 then 0 else 1) ≤ 1 := (by split <;> omega); omega)
            · skip
              refine jv_aload_n X dX14_reached_22 0 rfl ?_
              refine jv_get X dX14_reached_23 ht (T := TX16) (N := 5) (C := RX16) rfl in_X16 3 (by decide) q1201 rfl rfl ?_
              refine jv_iload_n X dX14_reached_26 3 rfl ?_
              refine jv_ask (jv_runSN (As := [.int m_, .int (nI r)]) (rest := []) X dX14_reached_27 (c_X0_has m_ (nI r)) (lw_meth q678) q1244 q90 q677 hd_X0_has (Nat.le_of_ble_eq_true rfl) (Nat.le_of_ble_eq_true rfl) (Nat.le_of_ble_eq_true rfl) (Nat.le_of_ble_eq_true rfl) rfl (Nat.le_of_ble_eq_true rfl)) ?_
              refine jb_if_eq 55 X dX14_reached_30 (by decide) (fun c30 => ?_) (fun c30 => ?_)
              · skip
                refine jv_iinc (v := nI (r + 1)) (lv' := [(3, .int (nI (r + 1))), (0, .ref t), (2, .int (nI w)), (1, .int (nI w2))]) X dX14_reached_55 3 rfl (nI_1 _) (by decide) rfl ?_
                refine jv_goto 13 X dX14_reached_58 (by decide) ?_
                refine jv_lv (lv' := [(0, .ref t), (2, .int (nI w)), (1, .int (nI w2)), (3, .int (nI (r + 1)))]) [1, 2, 3, 0] rfl ?_
                exact ih_13 (r + 1) w2 (by omega) (by rw [hw2]; show _ = jcR S e m_ w r ||| (if (m_ >>> (nI r &&& 31)) &&& nI 1 = nI 1 then rby S e r w else 0); rw [if_neg (hasI_f1 c30), Nat.or_zero]) (by omega)
              · skip
                refine jv_iload_n X dX14_reached_33 2 rfl ?_
                refine jv_aload_n X dX14_reached_34 0 rfl ?_
                refine jv_aload_n X dX14_reached_35 0 rfl ?_
                refine jv_get X dX14_reached_36 ht (T := TX16) (N := 5) (C := RX16) rfl in_X16 0 (by decide) q1198 rfl rfl ?_
                refine jv_getN X dX14_reached_39 hb (T := TX1) (N := 3) (C := RX1) rfl in_X1 1 (by decide) q187 rfl rfl ?_
                refine jv_iload_n X dX14_reached_42 3 rfl ?_
                refine jv_callr (jv_runV (As := [.int (nI r)]) (rest := [.ref t, .int (nI w2)]) X dX14_reached_43 (c_J2_get hlr her r (R r) (by omega) (by omega) (by omega) (by rw [hfr_ _ (by omega)]; rfl)) (lw_V q1190 q533 q534 q94 q535) hd_J2_get hlr rfl (Nat.le_of_ble_eq_true rfl) (Nat.le_of_ble_eq_true rfl) (Nat.le_of_ble_eq_true rfl) (Nat.le_of_ble_eq_true rfl) rfl (Nat.le_of_ble_eq_true rfl)) (fun rr_ M_ h_ => ?_)
                obtain ⟨hr_, hm_⟩ := h_
                rw [hr_, hm_]
                clear hr_ hm_
                refine jr_cast X dX14_reached_46 q1245 (hR r (by omega)) ?_
                refine jv_iload_n X dX14_reached_49 1 rfl ?_
                refine jv_ask (jv_runU (As := [.ref (R r), .int (nI w)]) (rest := [.int (nI w2)]) X dX14_reached_50 (c_X14_reachedBy_X16 hG hB0 hS hL hPP hse r (R r) w (by omega) (hR r (by omega)) hw) (jv_cuP X q1246 q2474 q1247 q1248 q122 q1249 q1333 ⟨by decide, by decide⟩ hd_X14_reachedBy (Nat.le_of_ble_eq_true rfl) (Nat.le_of_ble_eq_true rfl)) ht (show jv_cl[13]? = some (RX16, TX16, 5) from rfl) (Nat.le_of_ble_eq_true rfl) (Nat.le_of_ble_eq_true rfl) rfl (Nat.le_of_ble_eq_true rfl)) ?_
                refine jv_ior (w := nI (w2 ||| (rby S e r w))) X dX14_reached_53 (ni_or _ _) ?_
                refine jv_istore_n (lv' := [(1, .int (nI (w2 ||| (rby S e r w)))), (0, .ref t), (2, .int (nI w)), (3, .int (nI r))]) X dX14_reached_54 rfl (by decide) rfl ?_
                refine jv_iinc (v := nI (r + 1)) (lv' := [(3, .int (nI (r + 1))), (1, .int (nI (w2 ||| (rby S e r w)))), (0, .ref t), (2, .int (nI w))]) X dX14_reached_55 3 rfl (nI_1 _) (by decide) rfl ?_
                refine jv_goto 13 X dX14_reached_58 (by decide) ?_
                refine jv_lv (lv' := [(0, .ref t), (2, .int (nI w)), (1, .int (nI (w2 ||| (rby S e r w)))), (3, .int (nI (r + 1)))]) [2, 3, 1, 0] rfl ?_
                exact ih_13 (r + 1) (w2 ||| (rby S e r w)) (by omega) (by rw [hw2]; show _ = jcR S e m_ w r ||| (if (m_ >>> (nI r &&& 31)) &&& nI 1 = nI 1 then rby S e r w else 0); rw [if_pos (hasI_t c30)]) (by omega)
        refine jv_lv (lv' := [(0, .ref t), (2, .int (nI w)), (1, .int (nI w)), (3, .int (nI 0))]) [2, 1, 3, 0] rfl ?_
        exact lp13_2 (S 1 + 1) 0 w (Nat.zero_le _) rfl (by omega)
  refine jv_lv (lv' := [(0, .ref t), (1, .int (nI 0)), (2, .int (-1))]) [2, 1, 0] rfl ?_
  exact lp4_1 (129 + 1) 0 (-1) (by decide) (fun V _ => sbs.zero) (Or.inl rfl) (by split <;> omega)
set_option maxHeartbeats 4000000 in
theorem c_X14_areReached_X16 {l : Launch} {G : jv_G} {M : jv_M} {σ : jk_A} (hG : jk_G G σ) {B : jv_M} {τ : Nat → Nat} {b t ma oa sa : Nat} {m_ : Int32} {e : Nat → Nat} {S : Nat → Nat} (hB : jbd G B τ b S) (hS : wfS S) (hL : wfL S) (hPP : wfP S) (hse : jse 13 [] G B M S b t m_ ma oa sa e)   : jv_Ct G l yX14_areReached cX14_areReached 3 (some .boolean) 10 0 0 308 [.ref t] M (jv_qi G (jv_pi (bI (decide (unr S e m_ = (-1)))) M)) := by
  refine jv_Ct.of (lv := [(0, .ref t)]) (by decide) (Nat.le_of_ble_eq_true rfl) rfl ?_
  intro x Q_ hl_ hQ X
  subst hl_
  have hB0 := hB
  obtain ⟨⟨ht, hft, hnt⟩, ⟨gm, hma, hgm⟩, ⟨go, hoa, hgo⟩, ⟨gs, hsa, hgs, hfsa, hnsa⟩, he6, hms, hos, hag⟩ := id hse
  replace hB := hB.sub hag hS.1.p
  have hB_ := hB
  obtain ⟨lp, lr, la, P, R, A, hb, hfb, ⟨⟨mp_, ep, fp, hlp, hep, hn6, hfp, -, -, -⟩, hP⟩, ⟨⟨mr_, er, fr_, hlr, her, hn30, hfr_, -, -, -⟩, hR⟩, ⟨ma_, ea, fa, hla, hea, hn6a, hfa, -, -, -⟩, hA⟩ := hB
  have hW := hS.1
  have hp0 := hW.p
  have hr0 := hW.r
  have ha0 := hW.a
  have he64_ : ∀ p, p < 6 → e p < 64 := fun p hp => Nat.lt_trans (he6 p hp) (by decide)
  refine jv_aload_n X dX14_areReached_0 0 rfl ?_
  refine jv_ask (jv_runU (As := []) (rest := []) X dX14_areReached_1 (c_X14_reached_X16 hG hB0 hS hL hPP hse) (jv_cuI X (lw_U (x := yX14_reached) q1236 q1238 q1240 q1237 q122 q1243) rfl ⟨by decide, by decide⟩ hd_X14_reached (Nat.le_of_ble_eq_true rfl) (Nat.le_of_ble_eq_true rfl)) ht (show jv_cl[13]? = some (RX16, TX16, 5) from rfl) (Nat.le_of_ble_eq_true rfl) (Nat.le_of_ble_eq_true rfl) rfl (Nat.le_of_ble_eq_true rfl)) ?_
  refine jv_istore_n (lv' := [(1, .int (nI (rchT S e m_ (S 0 + 1)))), (0, .ref t)]) X dX14_areReached_4 rfl (by decide) rfl ?_
  have hrl_ := rchT_lt hW (c := e) (m := m_) (t := S 0 + 1)
  refine jv_iconst (v := nI 0) X dX14_areReached_5 rfl ?_
  refine jv_istore_n (lv' := [(2, .int (nI 0)), (1, .int (nI (rchT S e m_ (S 0 + 1)))), (0, .ref t)]) X dX14_areReached_6 rfl (by decide) rfl ?_
  have lp7_1 : ∀ (d_7 : Nat) (p : Nat), p ≤ S 0 → unr S e m_ = unrN e (rchT S e m_ (S 0 + 1)) (S 0 - p) p → S 0 - p < d_7 → jv_J x G 3 Q_ M 0 0 7 [(0, .ref t), (1, .int (nI (rchT S e m_ (S 0 + 1)))), (2, .int (nI p))] [] := by
    intro d_7
    induction d_7 with
    | zero => intro p hp hw hm_7; exact absurd hm_7 (Nat.not_lt_zero _)
    | succ d_7 ih_7 =>
      intro p hp hw hm_7
      refine jv_iload_n X dX14_areReached_7 2 rfl ?_
      refine jv_aload_n X dX14_areReached_8 0 rfl ?_
      refine jv_get X dX14_areReached_9 ht (T := TX16) (N := 5) (C := RX16) rfl in_X16 0 (by decide) q1198 rfl rfl ?_
      refine jv_getN X dX14_areReached_12 hb (T := TX1) (N := 3) (C := RX1) rfl in_X1 0 (by decide) q181 rfl rfl ?_
      refine jv_ask (jv_runV (As := []) (rest := [.int (nI p)]) X dX14_areReached_15 (c_J2_size hlp) (lw_V q1189 q284 q285 q94 q286) hd_J2_size hlp rfl (Nat.le_of_ble_eq_true rfl) (Nat.le_of_ble_eq_true rfl) (Nat.le_of_ble_eq_true rfl) (Nat.le_of_ble_eq_true rfl) rfl (Nat.le_of_ble_eq_true rfl)) ?_
      refine jn_icmp_ge 47 X dX14_areReached_18 (by decide) (by omega) (by omega) (fun c18 => ?_) (fun c18 => ?_)
      · skip
        refine jv_iconst (v := nI 1) X dX14_areReached_47 rfl ?_
        exact jv_iret (v := bI true) X dX14_areReached_48 (bI_nar _) hQ (Nat.le_of_ble_eq_true rfl) (Nat.le_of_ble_eq_true rfl) ⟨(congrArg bI (decide_eq_true (by rw [hw, show S 0 - p = 0 by omega]; rfl)).symm), rfl⟩
      · skip
        refine jv_aload_n X dX14_areReached_21 0 rfl ?_
        refine jv_get X dX14_areReached_22 ht (T := TX16) (N := 5) (C := RX16) rfl in_X16 4 (by decide) q1202 rfl rfl ?_
        refine jv_iload_n X dX14_areReached_25 2 rfl ?_
        refine jv_iald (v := nI (e p)) X dX14_areReached_26 hsa (jn_in (by omega) (by decide)) (by rw [nI_clamp (by omega)]; exact (hgs _ (by omega))) ?_
        refine jv_iconst (v := nI 5) X dX14_areReached_27 rfl ?_
        refine jn_icmp_eq 41 X dX14_areReached_28 (by decide) (Nat.lt_trans (he6 _ (by omega)) (by decide)) (by decide) (fun c28 => ?_) (fun c28 => ?_)
        · skip
          refine jv_iinc (v := nI (p + 1)) (lv' := [(2, .int (nI (p + 1))), (0, .ref t), (1, .int (nI (rchT S e m_ (S 0 + 1))))]) X dX14_areReached_41 2 rfl (nI_1 _) (by decide) rfl ?_
          refine jv_goto 7 X dX14_areReached_44 (by decide) ?_
          refine jv_lv (lv' := [(0, .ref t), (1, .int (nI (rchT S e m_ (S 0 + 1)))), (2, .int (nI (p + 1)))]) [1, 2, 0] rfl ?_
          exact ih_7 (p + 1) (by omega) (by rw [hw, show S 0 - p = (S 0 - (p + 1)) + 1 by omega, unrN, if_pos c28]) (by omega)
        · skip
          refine jv_iload_n X dX14_areReached_31 1 rfl ?_
          refine jv_iload_n X dX14_areReached_32 2 rfl ?_
          refine jv_ask (jv_runSN (As := [.int (nI (rchT S e m_ (S 0 + 1))), .int (nI p)]) (rest := []) X dX14_areReached_33 (c_X0_has (nI (rchT S e m_ (S 0 + 1))) (nI p)) (lw_meth q678) q1244 q90 q677 hd_X0_has (Nat.le_of_ble_eq_true rfl) (Nat.le_of_ble_eq_true rfl) (Nat.le_of_ble_eq_true rfl) (Nat.le_of_ble_eq_true rfl) rfl (Nat.le_of_ble_eq_true rfl)) ?_
          refine jb_if_ne 41 X dX14_areReached_36 (by decide) (fun c36 => ?_) (fun c36 => ?_)
          · skip
            refine jv_iinc (v := nI (p + 1)) (lv' := [(2, .int (nI (p + 1))), (0, .ref t), (1, .int (nI (rchT S e m_ (S 0 + 1))))]) X dX14_areReached_41 2 rfl (nI_1 _) (by decide) rfl ?_
            refine jv_goto 7 X dX14_areReached_44 (by decide) ?_
            refine jv_lv (lv' := [(0, .ref t), (1, .int (nI (rchT S e m_ (S 0 + 1)))), (2, .int (nI (p + 1)))]) [1, 2, 0] rfl ?_
            exact ih_7 (p + 1) (by omega) (by rw [hw, show S 0 - p = (S 0 - (p + 1)) + 1 by omega, unrN, if_neg c28, if_neg (fun z => by have h := hasI_b (u := rchT S e m_ (S 0 + 1)) (k := p) (by omega) (by omega); rw [c36, if_neg (by rw [z]; decide)] at h; cases h)]) (by omega)
          · skip
            refine jv_iconst (v := nI 0) X dX14_areReached_39 rfl ?_
            exact jv_iret (v := bI false) X dX14_areReached_40 (bI_nar _) hQ (Nat.le_of_ble_eq_true rfl) (Nat.le_of_ble_eq_true rfl) ⟨(congrArg bI (decide_eq_false (by rw [hw, show S 0 - p = (S 0 - (p + 1)) + 1 by omega, unrN, if_neg c28, if_pos (by have h := hasI_b (u := rchT S e m_ (S 0 + 1)) (k := p) (by omega) (by omega); rw [c36] at h; exact Classical.byContradiction fun z => by rw [if_pos (by rw [Nat.and_one_is_mod] at z ⊢; omega)] at h; cases h)]; exact nI_ne_m1 (by omega))).symm), rfl⟩
  refine jv_lv (lv' := [(0, .ref t), (1, .int (nI (rchT S e m_ (S 0 + 1)))), (2, .int (nI 0))]) [2, 1, 0] rfl ?_
  exact lp7_1 (S 0 + 1) 0 (Nat.zero_le _) rfl (by omega)
set_option maxHeartbeats 4000000 in
theorem c_X14_reachedBy_X17 {l : Launch} {G : jv_G} {M : jv_M} {σ : jk_A} (hG : jk_G G σ) {B : jv_M} {τ : Nat → Nat} {b t ma oa sa : Nat} {m_ : Int32} {xa : Nat} {e : Nat → Nat} {S : Nat → Nat} (hB : jbd G B τ b S) (hS : wfS S) (hL : wfL S) (hPP : wfP S) (hse : jse 14 [.ref xa] G B M S b t m_ ma oa sa e) (r : Nat) (a_ : Nat) (w_ : Nat) (hr : r < S 1) (ha_ : jrule G M τ S r a_) (hw_ : w_ < 64) : jv_Ct G l yX14_reachedBy cX14_reachedBy 6 (some .int) 8 0 0 260 [.ref t, .ref a_, .int (nI w_)] M (jv_qi G (jv_pi (nI (rby S e r w_)) M)) := by
  refine jv_Ct.of (lv := [(0, .ref t), (1, .ref a_), (2, .int (nI w_))]) (by decide) (Nat.le_of_ble_eq_true rfl) rfl ?_
  intro x Q_ hl_ hQ X
  subst hl_
  have hB0 := hB
  obtain ⟨⟨ht, hft, hnt⟩, ⟨gm, hma, hgm⟩, ⟨go, hoa, hgo⟩, ⟨gs, hsa, hgs, hfsa, hnsa⟩, he6, hms, hos, hag⟩ := id hse
  replace hB := hB.sub hag hS.1.p
  have hB_ := hB
  obtain ⟨lp, lr, la, P, R, A, hb, hfb, ⟨⟨mp_, ep, fp, hlp, hep, hn6, hfp, -, -, -⟩, hP⟩, ⟨⟨mr_, er, fr_, hlr, her, hn30, hfr_, -, -, -⟩, hR⟩, ⟨ma_, ea, fa, hla, hea, hn6a, hfa, -, -, -⟩, hA⟩ := hB
  have hW := hS.1
  have hp0 := hW.p
  have hr0 := hW.r
  have ha0 := hW.a
  have he64_ : ∀ p, p < 6 → e p < 64 := fun p hp => Nat.lt_trans (he6 p hp) (by decide)
  have hr1_ := hW.r1 (show r < 30 by omega)
  have hr3_ := hW.r3 (show r < 30 by omega)
  refine jv_aload_n X dX14_reachedBy_0 1 rfl ?_
  refine jv_ask (jr_wanted (rest := []) X dX14_reachedBy_1 q1250 ha_ (Nat.le_of_ble_eq_true rfl) (Nat.le_of_ble_eq_true rfl) (Nat.le_of_ble_eq_true rfl) (Nat.le_of_ble_eq_true rfl) (Nat.le_of_ble_eq_true rfl)) ?_
  refine jv_if_lt 14 X dX14_reachedBy_4 (by decide) (fun c4 => ?_) (fun c4 => ?_)
  · skip
    have hk0_ := rWan_lt hr1_ c4
    refine jv_iconst (v := nI 0) X dX14_reachedBy_14 rfl ?_
    refine jv_istore_n (lv' := [(3, .int (nI 0)), (0, .ref t), (1, .ref a_), (2, .int (nI w_))]) X dX14_reachedBy_15 rfl (by decide) rfl ?_
    refine jv_iconst (v := nI 0) X dX14_reachedBy_16 rfl ?_
    refine jv_istore (lv' := [(4, .int (nI 0)), (3, .int (nI 0)), (0, .ref t), (1, .ref a_), (2, .int (nI w_))]) X dX14_reachedBy_17 (by decide) rfl ?_
    have lp19_1 : ∀ (d_19 : Nat) (p : Nat) (w : Nat), p ≤ S 0 → w = rbP S e r w_ p → S 0 - p < d_19 → jv_J x G 6 Q_ M 0 0 19 [(0, .ref t), (1, .ref a_), (2, .int (nI w_)), (3, .int (nI w)), (4, .int (nI p))] [] := by
      intro d_19
      induction d_19 with
      | zero => intro p w hp hw hm_19; exact absurd hm_19 (Nat.not_lt_zero _)
      | succ d_19 ih_19 =>
        intro p w hp hw hm_19
        refine jv_iload X dX14_reachedBy_19 4 rfl ?_
        refine jv_aload_n X dX14_reachedBy_21 0 rfl ?_
        refine jv_get X dX14_reachedBy_22 ht (T := TX17) (N := 6) (C := RX17) rfl in_X17 0 (by decide) q1198 rfl rfl ?_
        refine jv_getN X dX14_reachedBy_25 hb (T := TX1) (N := 3) (C := RX1) rfl in_X1 0 (by decide) q181 rfl rfl ?_
        refine jv_ask (jv_runV (As := []) (rest := [.int (nI p)]) X dX14_reachedBy_28 (c_J2_size hlp) (lw_V q1189 q284 q285 q94 q286) hd_J2_size hlp rfl (Nat.le_of_ble_eq_true rfl) (Nat.le_of_ble_eq_true rfl) (Nat.le_of_ble_eq_true rfl) (Nat.le_of_ble_eq_true rfl) rfl (Nat.le_of_ble_eq_true rfl)) ?_
        refine jn_icmp_ge 84 X dX14_reachedBy_31 (by decide) (by omega) (by omega) (fun c31 => ?_) (fun c31 => ?_)
        · skip
          refine jv_iload_n X dX14_reachedBy_84 3 rfl ?_
          exact jv_iret (v := nI w) X dX14_reachedBy_85 rfl hQ (Nat.le_of_ble_eq_true rfl) (Nat.le_of_ble_eq_true rfl) ⟨(congrArg nI (by unfold rby; rw [if_neg hk0_, hw, show p = S 0 by omega])), rfl⟩
        · skip
          refine jv_iload_n X dX14_reachedBy_34 2 rfl ?_
          refine jv_iload X dX14_reachedBy_35 4 rfl ?_
          refine jv_ask (jv_runSN (As := [.int (nI w_), .int (nI p)]) (rest := []) X dX14_reachedBy_37 (c_X0_has (nI w_) (nI p)) (lw_meth q678) q1244 q90 q677 hd_X0_has (Nat.le_of_ble_eq_true rfl) (Nat.le_of_ble_eq_true rfl) (Nat.le_of_ble_eq_true rfl) (Nat.le_of_ble_eq_true rfl) rfl (Nat.le_of_ble_eq_true rfl)) ?_
          refine jb_if_eq 59 X dX14_reachedBy_40 (by decide) (fun c40 => ?_) (fun c40 => ?_)
          · skip
            refine jv_iconst (v := (-1)) X dX14_reachedBy_59 rfl ?_
            refine jv_istore (lv' := [(5, .int (-1)), (0, .ref t), (1, .ref a_), (2, .int (nI w_)), (3, .int (nI w)), (4, .int (nI p))]) X dX14_reachedBy_60 (by decide) rfl ?_
            refine jv_iload_n X dX14_reachedBy_62 4 rfl ?_
            refine jv_iload X dX14_reachedBy_63 0 rfl ?_
            refine jv_if_lt 75 X dX14_reachedBy_65 (by decide) (fun c65 => ?_) (fun c65 => ?_)
            · skip
              refine jv_iconst (v := nI 0) X dX14_reachedBy_75 rfl ?_
              refine jv_ior (w := nI (w ||| 0)) X dX14_reachedBy_76 (ni_or _ _) ?_
              refine jv_istore_n (lv' := [(3, .int (nI (w ||| 0))), (5, .int (-1)), (0, .ref t), (1, .ref a_), (2, .int (nI w_)), (4, .int (nI p))]) X dX14_reachedBy_77 rfl (by decide) rfl ?_
              refine jv_iinc (v := nI (p + 1)) (lv' := [(4, .int (nI (p + 1))), (3, .int (nI (w ||| 0))), (5, .int (-1)), (0, .ref t), (1, .ref a_), (2, .int (nI w_))]) X dX14_reachedBy_78 5 rfl (nI_1 _) (by decide) rfl ?_
              refine jv_goto 19 X dX14_reachedBy_81 (by decide) ?_
              refine jv_lv (lv' := [(0, .ref t), (1, .ref a_), (2, .int (nI w_)), (3, .int (nI (w ||| 0))), (4, .int (nI (p + 1)))]) [3, 4, 5, 1, 0] rfl ?_
              exact ih_19 (p + 1) (w ||| 0) (by omega) (by rw [hw]; show _ = rbP S e r w_ p ||| (if w_ / 2 ^ p &&& 1 = 1 then (if v_ofRule S r 0 = 1 then (if v_ofRule S r 1 = p ∧ v_ofRule S r 2 = e p then 2 ^ v_ofRule S r 3 else 0) else 0) else 0); rw [if_neg (fun z => by have := hasI_b (u := w_) (k := p) (by omega) (by omega); rw [c40, if_pos z] at this; cases this)]) (by omega)
            · skip
              exact (absurd (by decide) c65)
          · skip
            refine jv_aload_n X dX14_reachedBy_43 1 rfl ?_
            refine jv_iload X dX14_reachedBy_44 4 rfl ?_
            refine jv_aload_n X dX14_reachedBy_46 0 rfl ?_
            refine jv_get X dX14_reachedBy_47 ht (T := TX17) (N := 6) (C := RX17) rfl in_X17 4 (by decide) q1202 rfl rfl ?_
            refine jv_iload X dX14_reachedBy_50 4 rfl ?_
            refine jv_iald (v := nI (e p)) X dX14_reachedBy_52 hsa (jn_in (by omega) (by decide)) (by rw [nI_clamp (by omega)]; exact (hgs _ (by omega))) ?_
            refine jv_ask (jr_reaches (rest := []) X dX14_reachedBy_53 q1260 ha_ hW (by omega) p (e p) (by omega) (Nat.lt_trans (he6 _ (by omega)) (by decide)) (Nat.le_of_ble_eq_true rfl) (Nat.le_of_ble_eq_true rfl) (Nat.le_of_ble_eq_true rfl) (Nat.le_of_ble_eq_true rfl) (Nat.le_of_ble_eq_true rfl)) ?_
            refine jv_goto 60 X dX14_reachedBy_56 (by decide) ?_
            refine jv_istore (lv' := [(5, .int (rRea S r p (e p))), (0, .ref t), (1, .ref a_), (2, .int (nI w_)), (3, .int (nI w)), (4, .int (nI p))]) X dX14_reachedBy_60 (by decide) rfl ?_
            refine jv_iload_n X dX14_reachedBy_62 4 rfl ?_
            refine jv_iload X dX14_reachedBy_63 0 rfl ?_
            refine jv_if_lt 75 X dX14_reachedBy_65 (by decide) (fun c65 => ?_) (fun c65 => ?_)
            · skip
              refine jv_iconst (v := nI 0) X dX14_reachedBy_75 rfl ?_
              refine jv_ior (w := nI (w ||| 0)) X dX14_reachedBy_76 (ni_or _ _) ?_
              refine jv_istore_n (lv' := [(3, .int (nI (w ||| 0))), (5, .int (rRea S r p (e p))), (0, .ref t), (1, .ref a_), (2, .int (nI w_)), (4, .int (nI p))]) X dX14_reachedBy_77 rfl (by decide) rfl ?_
              refine jv_iinc (v := nI (p + 1)) (lv' := [(4, .int (nI (p + 1))), (3, .int (nI (w ||| 0))), (5, .int (rRea S r p (e p))), (0, .ref t), (1, .ref a_), (2, .int (nI w_))]) X dX14_reachedBy_78 5 rfl (nI_1 _) (by decide) rfl ?_
              refine jv_goto 19 X dX14_reachedBy_81 (by decide) ?_
              refine jv_lv (lv' := [(0, .ref t), (1, .ref a_), (2, .int (nI w_)), (3, .int (nI (w ||| 0))), (4, .int (nI (p + 1)))]) [3, 4, 5, 1, 0] rfl ?_
              exact ih_19 (p + 1) (w ||| 0) (by omega) (by rw [hw]; show _ = rbP S e r w_ p ||| (if w_ / 2 ^ p &&& 1 = 1 then (if v_ofRule S r 0 = 1 then (if v_ofRule S r 1 = p ∧ v_ofRule S r 2 = e p then 2 ^ v_ofRule S r 3 else 0) else 0) else 0); rw [if_pos (by have := hasI_b (u := w_) (k := p) (by omega) (by omega); rw [c40] at this; exact Classical.byContradiction fun z => by rw [if_neg z] at this; cases this)]; by_cases e1 : v_ofRule S r 0 = 1; rw [if_pos e1, if_neg (rRea_lt hr3_ c65 e1)]; rw [if_neg e1]) (by omega)
            · skip
              have hq_ := rRea_ge c65
              rw [hq_.2.2]
              refine jv_iconst (v := nI 1) X dX14_reachedBy_68 rfl ?_
              refine jv_iload X dX14_reachedBy_69 0 rfl ?_
              refine jv_ishl (w := nI (2 ^ (v_ofRule S r 3))) X dX14_reachedBy_71 (ni_shl1 (by omega)) ?_
              refine jv_goto 76 X dX14_reachedBy_72 (by decide) ?_
              refine jv_ior (w := nI (w ||| (2 ^ (v_ofRule S r 3)))) X dX14_reachedBy_76 (ni_or _ _) ?_
              refine jv_istore_n (lv' := [(3, .int (nI (w ||| (2 ^ (v_ofRule S r 3))))), (5, .int (nI (v_ofRule S r 3))), (0, .ref t), (1, .ref a_), (2, .int (nI w_)), (4, .int (nI p))]) X dX14_reachedBy_77 rfl (by decide) rfl ?_
              refine jv_iinc (v := nI (p + 1)) (lv' := [(4, .int (nI (p + 1))), (3, .int (nI (w ||| (2 ^ (v_ofRule S r 3))))), (5, .int (nI (v_ofRule S r 3))), (0, .ref t), (1, .ref a_), (2, .int (nI w_))]) X dX14_reachedBy_78 5 rfl (nI_1 _) (by decide) rfl ?_
              refine jv_goto 19 X dX14_reachedBy_81 (by decide) ?_
              refine jv_lv (lv' := [(0, .ref t), (1, .ref a_), (2, .int (nI w_)), (3, .int (nI (w ||| (2 ^ (v_ofRule S r 3))))), (4, .int (nI (p + 1)))]) [3, 4, 5, 1, 0] rfl ?_
              exact ih_19 (p + 1) (w ||| (2 ^ (v_ofRule S r 3))) (by omega) (by rw [hw]; show _ = rbP S e r w_ p ||| (if w_ / 2 ^ p &&& 1 = 1 then (if v_ofRule S r 0 = 1 then (if v_ofRule S r 1 = p ∧ v_ofRule S r 2 = e p then 2 ^ v_ofRule S r 3 else 0) else 0) else 0); rw [if_pos (by have := hasI_b (u := w_) (k := p) (by omega) (by omega); rw [c40] at this; exact Classical.byContradiction fun z => by rw [if_neg z] at this; cases this), if_pos hq_.1, if_pos hq_.2.1]) (by omega)
    refine jv_lv (lv' := [(0, .ref t), (1, .ref a_), (2, .int (nI w_)), (3, .int (nI 0)), (4, .int (nI 0))]) [2, 3, 4, 1, 0] rfl ?_
    exact lp19_1 (S 0 + 1) 0 0 (Nat.zero_le _) rfl (by omega)
  · skip
    refine jv_iconst (v := nI 1) X dX14_reachedBy_7 rfl ?_
    refine jv_aload_n X dX14_reachedBy_8 1 rfl ?_
    refine jv_ask (jr_wanted (rest := [.int (nI 1)]) X dX14_reachedBy_9 q1250 ha_ (Nat.le_of_ble_eq_true rfl) (Nat.le_of_ble_eq_true rfl) (Nat.le_of_ble_eq_true rfl) (Nat.le_of_ble_eq_true rfl) (Nat.le_of_ble_eq_true rfl)) ?_
    have hq_ := rWan_ge c4
    rw [hq_.2]
    refine jv_ishl (w := nI (2 ^ (v_ofRule S r 1))) X dX14_reachedBy_12 (ni_shl1 (by omega)) ?_
    exact jv_iret (v := nI (2 ^ (v_ofRule S r 1))) X dX14_reachedBy_13 rfl hQ (Nat.le_of_ble_eq_true rfl) (Nat.le_of_ble_eq_true rfl) ⟨(congrArg nI (by unfold rby; rw [if_pos hq_.1])), rfl⟩
set_option maxHeartbeats 4000000 in
theorem c_X14_reached_X17 {l : Launch} {G : jv_G} {M : jv_M} {σ : jk_A} (hG : jk_G G σ) {B : jv_M} {τ : Nat → Nat} {b t ma oa sa : Nat} {m_ : Int32} {xa : Nat} {e : Nat → Nat} {S : Nat → Nat} (hB : jbd G B τ b S) (hS : wfS S) (hL : wfL S) (hPP : wfP S) (hse : jse 14 [.ref xa] G B M S b t m_ ma oa sa e)   : jv_Ct G l yX14_reached cX14_reached 4 (some .int) 9 0 0 285 [.ref t] M (jv_qi G (jv_pi (nI (rchT S e m_ (S 0 + 1))) M)) := by
  refine jv_Ct.of (lv := [(0, .ref t)]) (by decide) (Nat.le_of_ble_eq_true rfl) rfl ?_
  intro x Q_ hl_ hQ X
  subst hl_
  have hB0 := hB
  obtain ⟨⟨ht, hft, hnt⟩, ⟨gm, hma, hgm⟩, ⟨go, hoa, hgo⟩, ⟨gs, hsa, hgs, hfsa, hnsa⟩, he6, hms, hos, hag⟩ := id hse
  replace hB := hB.sub hag hS.1.p
  have hB_ := hB
  obtain ⟨lp, lr, la, P, R, A, hb, hfb, ⟨⟨mp_, ep, fp, hlp, hep, hn6, hfp, -, -, -⟩, hP⟩, ⟨⟨mr_, er, fr_, hlr, her, hn30, hfr_, -, -, -⟩, hR⟩, ⟨ma_, ea, fa, hla, hea, hn6a, hfa, -, -, -⟩, hA⟩ := hB
  have hW := hS.1
  have hp0 := hW.p
  have hr0 := hW.r
  have ha0 := hW.a
  have he64_ : ∀ p, p < 6 → e p < 64 := fun p hp => Nat.lt_trans (he6 p hp) (by decide)
  refine jv_iconst (v := nI 0) X dX14_reached_0 rfl ?_
  refine jv_istore_n (lv' := [(1, .int (nI 0)), (0, .ref t)]) X dX14_reached_1 rfl (by decide) rfl ?_
  refine jv_iconst (v := (-1)) X dX14_reached_2 rfl ?_
  refine jv_istore_n (lv' := [(2, .int (-1)), (1, .int (nI 0)), (0, .ref t)]) X dX14_reached_3 rfl (by decide) rfl ?_
  have lp4_1 : ∀ (d_4 : Nat) (w : Nat) (x_ : Int32), w < 64 → (∀ V, rcl S e m_ V → sbs w V) → (x_ = (-1) ∨ ∃ u, u < 64 ∧ x_ = nI u ∧ w = jcR S e m_ u (S 1)) → 2 * (64 - w) + (if x_ = nI w then 0 else 1) < d_4 → jv_J x G 4 Q_ M 0 0 4 [(0, .ref t), (1, .int (nI w)), (2, .int x_)] [] := by
    intro d_4
    induction d_4 with
    | zero => intro w x_ hw hmn hx_ hm_4; exact absurd hm_4 (Nat.not_lt_zero _)
    | succ d_4 ih_4 =>
      intro w x_ hw hmn hx_ hm_4
      refine jv_iload_n X dX14_reached_4 1 rfl ?_
      refine jv_iload_n X dX14_reached_5 2 rfl ?_
      refine jv_icmp_eq 64 X dX14_reached_6 (by decide) (fun c6 => ?_) (fun c6 => ?_)
      · skip
        refine jv_iload_n X dX14_reached_64 1 rfl ?_
        exact jv_iret (v := nI w) X dX14_reached_65 rfl hQ (Nat.le_of_ble_eq_true rfl) (Nat.le_of_ble_eq_true rfl) ⟨(congrArg nI (by rcases hx_ with z | ⟨u, hu, z, z2⟩; exact absurd (c6.trans z) (nI_ne_m1 (by omega)); have h5 : w = u := (nI_eq (by omega) (by omega)).mp (c6.trans z); subst h5; exact rch_e hS z2.symm hmn)), rfl⟩
      · skip
        refine jv_iload_n X dX14_reached_9 1 rfl ?_
        refine jv_istore_n (lv' := [(2, .int (nI w)), (0, .ref t), (1, .int (nI w))]) X dX14_reached_10 rfl (by decide) rfl ?_
        refine jv_iconst (v := nI 0) X dX14_reached_11 rfl ?_
        refine jv_istore_n (lv' := [(3, .int (nI 0)), (2, .int (nI w)), (0, .ref t), (1, .int (nI w))]) X dX14_reached_12 rfl (by decide) rfl ?_
        have lp13_2 : ∀ (d_13 : Nat) (r : Nat) (w2 : Nat), r ≤ S 1 → w2 = jcR S e m_ w r → S 1 - r < d_13 → jv_J x G 4 Q_ M 0 0 13 [(0, .ref t), (2, .int (nI w)), (1, .int (nI w2)), (3, .int (nI r))] [] := by
          intro d_13
          induction d_13 with
          | zero => intro r w2 hr hw2 hm_13; exact absurd hm_13 (Nat.not_lt_zero _)
          | succ d_13 ih_13 =>
            intro r w2 hr hw2 hm_13
            refine jv_iload_n X dX14_reached_13 3 rfl ?_
            refine jv_aload_n X dX14_reached_14 0 rfl ?_
            refine jv_get X dX14_reached_15 ht (T := TX17) (N := 6) (C := RX17) rfl in_X17 1 (by decide) q1199 rfl rfl ?_
            refine jv_alen (t0 := 0) (v := nI (S 1)) X dX14_reached_18 hma rfl rfl ?_
            refine jn_icmp_ge 61 X dX14_reached_19 (by decide) (by omega) (by omega) (fun c19 => ?_) (fun c19 => ?_)
            · skip
              refine jv_goto 4 X dX14_reached_61 (by decide) ?_
              refine jv_lv (lv' := [(0, .ref t), (1, .int (nI w2)), (2, .int (nI w))]) [0, 2, 1] rfl ?_
              exact ih_4 w2 (nI w) (by rw [hw2]; exact jcR_lt hW hw _ (by omega)) (fun V hV => by rw [hw2]; exact jcR_min hV (hmn V hV) _ (by omega)) (Or.inr ⟨w, hw, rfl, by rw [hw2, show r = S 1 by omega]⟩) (by have h1 := (jcR_up S e m_ w r).le; rw [← hw2] at h1; have h3 : w2 < 64 := (by rw [hw2]; exact jcR_lt hW hw _ (by omega)); rw [if_neg (fun z => c6 z.symm)] at hm_4; by_cases h4 : w2 = w; rw [h4, if_pos rfl]; omega; have : (if nI w = nI w2 then 0 else 1) ≤ 1 := (by split <;> omega); omega)
            · skip
              refine jv_aload_n X dX14_reached_22 0 rfl ?_
              refine jv_get X dX14_reached_23 ht (T := TX17) (N := 6) (C := RX17) rfl in_X17 3 (by decide) q1201 rfl rfl ?_
              refine jv_iload_n X dX14_reached_26 3 rfl ?_
              refine jv_ask (jv_runSN (As := [.int m_, .int (nI r)]) (rest := []) X dX14_reached_27 (c_X0_has m_ (nI r)) (lw_meth q678) q1244 q90 q677 hd_X0_has (Nat.le_of_ble_eq_true rfl) (Nat.le_of_ble_eq_true rfl) (Nat.le_of_ble_eq_true rfl) (Nat.le_of_ble_eq_true rfl) rfl (Nat.le_of_ble_eq_true rfl)) ?_
              refine jb_if_eq 55 X dX14_reached_30 (by decide) (fun c30 => ?_) (fun c30 => ?_)
              · skip
                refine jv_iinc (v := nI (r + 1)) (lv' := [(3, .int (nI (r + 1))), (0, .ref t), (2, .int (nI w)), (1, .int (nI w2))]) X dX14_reached_55 3 rfl (nI_1 _) (by decide) rfl ?_
                refine jv_goto 13 X dX14_reached_58 (by decide) ?_
                refine jv_lv (lv' := [(0, .ref t), (2, .int (nI w)), (1, .int (nI w2)), (3, .int (nI (r + 1)))]) [1, 2, 3, 0] rfl ?_
                exact ih_13 (r + 1) w2 (by omega) (by rw [hw2]; show _ = jcR S e m_ w r ||| (if (m_ >>> (nI r &&& 31)) &&& nI 1 = nI 1 then rby S e r w else 0); rw [if_neg (hasI_f1 c30), Nat.or_zero]) (by omega)
              · skip
                refine jv_iload_n X dX14_reached_33 2 rfl ?_
                refine jv_aload_n X dX14_reached_34 0 rfl ?_
                refine jv_aload_n X dX14_reached_35 0 rfl ?_
                refine jv_get X dX14_reached_36 ht (T := TX17) (N := 6) (C := RX17) rfl in_X17 0 (by decide) q1198 rfl rfl ?_
                refine jv_getN X dX14_reached_39 hb (T := TX1) (N := 3) (C := RX1) rfl in_X1 1 (by decide) q187 rfl rfl ?_
                refine jv_iload_n X dX14_reached_42 3 rfl ?_
                refine jv_callr (jv_runV (As := [.int (nI r)]) (rest := [.ref t, .int (nI w2)]) X dX14_reached_43 (c_J2_get hlr her r (R r) (by omega) (by omega) (by omega) (by rw [hfr_ _ (by omega)]; rfl)) (lw_V q1190 q533 q534 q94 q535) hd_J2_get hlr rfl (Nat.le_of_ble_eq_true rfl) (Nat.le_of_ble_eq_true rfl) (Nat.le_of_ble_eq_true rfl) (Nat.le_of_ble_eq_true rfl) rfl (Nat.le_of_ble_eq_true rfl)) (fun rr_ M_ h_ => ?_)
                obtain ⟨hr_, hm_⟩ := h_
                rw [hr_, hm_]
                clear hr_ hm_
                refine jr_cast X dX14_reached_46 q1245 (hR r (by omega)) ?_
                refine jv_iload_n X dX14_reached_49 1 rfl ?_
                refine jv_ask (jv_runU (As := [.ref (R r), .int (nI w)]) (rest := [.int (nI w2)]) X dX14_reached_50 (c_X14_reachedBy_X17 hG hB0 hS hL hPP hse r (R r) w (by omega) (hR r (by omega)) hw) (jv_cuP X q1246 q2474 q1247 q1248 q122 q1249 q1366 ⟨by decide, by decide⟩ hd_X14_reachedBy (Nat.le_of_ble_eq_true rfl) (Nat.le_of_ble_eq_true rfl)) ht (show jv_cl[14]? = some (RX17, TX17, 6) from rfl) (Nat.le_of_ble_eq_true rfl) (Nat.le_of_ble_eq_true rfl) rfl (Nat.le_of_ble_eq_true rfl)) ?_
                refine jv_ior (w := nI (w2 ||| (rby S e r w))) X dX14_reached_53 (ni_or _ _) ?_
                refine jv_istore_n (lv' := [(1, .int (nI (w2 ||| (rby S e r w)))), (0, .ref t), (2, .int (nI w)), (3, .int (nI r))]) X dX14_reached_54 rfl (by decide) rfl ?_
                refine jv_iinc (v := nI (r + 1)) (lv' := [(3, .int (nI (r + 1))), (1, .int (nI (w2 ||| (rby S e r w)))), (0, .ref t), (2, .int (nI w))]) X dX14_reached_55 3 rfl (nI_1 _) (by decide) rfl ?_
                refine jv_goto 13 X dX14_reached_58 (by decide) ?_
                refine jv_lv (lv' := [(0, .ref t), (2, .int (nI w)), (1, .int (nI (w2 ||| (rby S e r w)))), (3, .int (nI (r + 1)))]) [2, 3, 1, 0] rfl ?_
                exact ih_13 (r + 1) (w2 ||| (rby S e r w)) (by omega) (by rw [hw2]; show _ = jcR S e m_ w r ||| (if (m_ >>> (nI r &&& 31)) &&& nI 1 = nI 1 then rby S e r w else 0); rw [if_pos (hasI_t c30)]) (by omega)
        refine jv_lv (lv' := [(0, .ref t), (2, .int (nI w)), (1, .int (nI w)), (3, .int (nI 0))]) [2, 1, 3, 0] rfl ?_
        exact lp13_2 (S 1 + 1) 0 w (Nat.zero_le _) rfl (by omega)
  refine jv_lv (lv' := [(0, .ref t), (1, .int (nI 0)), (2, .int (-1))]) [2, 1, 0] rfl ?_
  exact lp4_1 (129 + 1) 0 (-1) (by decide) (fun V _ => sbs.zero) (Or.inl rfl) (by split <;> omega)
set_option maxHeartbeats 4000000 in
theorem c_X14_isAllowed_X18 {l : Launch} {G : jv_G} {M : jv_M} {σ : jk_A} (hG : jk_G G σ) {B : jv_M} {τ : Nat → Nat} {b t ma oa sa : Nat} {m_ : Int32} {gp_ : Nat} {xf_ : Int32} {e : Nat → Nat} {S : Nat → Nat} (hB : jbd G B τ b S) (hS : wfS S) (hL : wfL S) (hPP : wfP S) (hse : jse 15 [.int (nI gp_), .int xf_] G B M S b t m_ ma oa sa e) (p_ : Nat) (hp : p_ < S 0) : jv_Ct G l yX14_isAllowed cX14_isAllowed 4 (some .boolean) 8 0 0 260 [.ref t, .int (nI p_)] M (jv_qi G (jv_pi (bI (fit_ S m_ p_ e)) M)) := by
  refine jv_Ct.of (lv := [(0, .ref t), (1, .int (nI p_))]) (by decide) (Nat.le_of_ble_eq_true rfl) rfl ?_
  intro x Q_ hl_ hQ X
  subst hl_
  have hB0 := hB
  obtain ⟨⟨ht, hft, hnt⟩, ⟨gm, hma, hgm⟩, ⟨go, hoa, hgo⟩, ⟨gs, hsa, hgs, hfsa, hnsa⟩, he6, hms, hos, hag⟩ := id hse
  replace hB := hB.sub hag hS.1.p
  have hB_ := hB
  obtain ⟨lp, lr, la, P, R, A, hb, hfb, ⟨⟨mp_, ep, fp, hlp, hep, hn6, hfp, -, -, -⟩, hP⟩, ⟨⟨mr_, er, fr_, hlr, her, hn30, hfr_, -, -, -⟩, hR⟩, ⟨ma_, ea, fa, hla, hea, hn6a, hfa, -, -, -⟩, hA⟩ := hB
  have hW := hS.1
  have hp0 := hW.p
  have hr0 := hW.r
  have ha0 := hW.a
  have he64_ : ∀ p, p < 6 → e p < 64 := fun p hp => Nat.lt_trans (he6 p hp) (by decide)
  refine jv_iconst (v := nI 0) X dX14_isAllowed_0 rfl ?_
  refine jv_istore_n (lv' := [(2, .int (nI 0)), (0, .ref t), (1, .int (nI p_))]) X dX14_isAllowed_1 rfl (by decide) rfl ?_
  have lp2_1 : ∀ (d_2 : Nat) (i : Nat), i ≤ S 2 → asaN S p_ e i = true → S 2 - i < d_2 → jv_J x G 4 Q_ M 0 0 2 [(0, .ref t), (1, .int (nI p_)), (2, .int (nI i))] [] := by
    intro d_2
    induction d_2 with
    | zero => intro i hi hw1 hm_2; exact absurd hm_2 (Nat.not_lt_zero _)
    | succ d_2 ih_2 =>
      intro i hi hw1 hm_2
      refine jv_iload_n X dX14_isAllowed_2 2 rfl ?_
      refine jv_aload_n X dX14_isAllowed_3 0 rfl ?_
      refine jv_get X dX14_isAllowed_4 ht (T := TX18) (N := 7) (C := RX18) rfl in_X18 0 (by decide) q1198 rfl rfl ?_
      refine jv_getN X dX14_isAllowed_7 hb (T := TX1) (N := 3) (C := RX1) rfl in_X1 2 (by decide) q191 rfl rfl ?_
      refine jv_ask (jv_runV (As := []) (rest := [.int (nI i)]) X dX14_isAllowed_10 (c_J2_size hla) (lw_V q1189 q284 q285 q94 q286) hd_J2_size hla rfl (Nat.le_of_ble_eq_true rfl) (Nat.le_of_ble_eq_true rfl) (Nat.le_of_ble_eq_true rfl) (Nat.le_of_ble_eq_true rfl) rfl (Nat.le_of_ble_eq_true rfl)) ?_
      refine jn_icmp_ge 60 X dX14_isAllowed_13 (by decide) (by omega) (by omega) (fun c13 => ?_) (fun c13 => ?_)
      · skip
        refine jv_iconst (v := nI 0) X dX14_isAllowed_60 rfl ?_
        refine jv_istore_n (lv' := [(2, .int (nI 0)), (0, .ref t), (1, .int (nI p_))]) X dX14_isAllowed_61 rfl (by decide) rfl ?_
        have lp62_2 : ∀ (d_62 : Nat) (r : Nat), r ≤ S 1 → fitN S m_ p_ e r = true → S 1 - r < d_62 → jv_J x G 4 Q_ M 0 0 62 [(0, .ref t), (1, .int (nI p_)), (2, .int (nI r))] [] := by
          intro d_62
          induction d_62 with
          | zero => intro r hr hw2 hm_62; exact absurd hm_62 (Nat.not_lt_zero _)
          | succ d_62 ih_62 =>
            intro r hr hw2 hm_62
            refine jv_iload_n X dX14_isAllowed_62 2 rfl ?_
            refine jv_aload_n X dX14_isAllowed_63 0 rfl ?_
            refine jv_get X dX14_isAllowed_64 ht (T := TX18) (N := 7) (C := RX18) rfl in_X18 1 (by decide) q1199 rfl rfl ?_
            refine jv_alen (t0 := 0) (v := nI (S 1)) X dX14_isAllowed_67 hma rfl rfl ?_
            refine jn_icmp_ge 130 X dX14_isAllowed_68 (by decide) (by omega) (by omega) (fun c68 => ?_) (fun c68 => ?_)
            · skip
              refine jv_iconst (v := nI 1) X dX14_isAllowed_130 rfl ?_
              exact jv_iret (v := bI true) X dX14_isAllowed_131 (bI_nar _) hQ (Nat.le_of_ble_eq_true rfl) (Nat.le_of_ble_eq_true rfl) ⟨(congrArg bI (show true = fit_ S m_ p_ e by unfold fit_; rw [← hw2, show r = S 1 by omega])), rfl⟩
            · skip
              refine jv_aload_n X dX14_isAllowed_71 0 rfl ?_
              refine jv_get X dX14_isAllowed_72 ht (T := TX18) (N := 7) (C := RX18) rfl in_X18 0 (by decide) q1198 rfl rfl ?_
              refine jv_getN X dX14_isAllowed_75 hb (T := TX1) (N := 3) (C := RX1) rfl in_X1 1 (by decide) q187 rfl rfl ?_
              refine jv_iload_n X dX14_isAllowed_78 2 rfl ?_
              refine jv_callr (jv_runV (As := [.int (nI r)]) (rest := []) X dX14_isAllowed_79 (c_J2_get hlr her r (R r) (by omega) (by omega) (by omega) (by rw [hfr_ _ (by omega)]; rfl)) (lw_V q1190 q533 q534 q94 q535) hd_J2_get hlr rfl (Nat.le_of_ble_eq_true rfl) (Nat.le_of_ble_eq_true rfl) (Nat.le_of_ble_eq_true rfl) (Nat.le_of_ble_eq_true rfl) rfl (Nat.le_of_ble_eq_true rfl)) (fun rr_ M_ h_ => ?_)
              obtain ⟨hr_, hm_⟩ := h_
              rw [hr_, hm_]
              clear hr_ hm_
              refine jr_cast X dX14_isAllowed_82 q1245 (hR r (by omega)) ?_
              refine jv_astore_n (lv' := [(3, .ref (R r)), (0, .ref t), (1, .int (nI p_)), (2, .int (nI r))]) X dX14_isAllowed_85 rfl (by decide) rfl ?_
              refine jv_aload_n X dX14_isAllowed_86 1 rfl ?_
              refine jv_get X dX14_isAllowed_87 ht (T := TX18) (N := 7) (C := RX18) rfl in_X18 3 (by decide) q1201 rfl rfl ?_
              refine jv_iload_n X dX14_isAllowed_90 3 rfl ?_
              refine jv_ask (jv_runSN (As := [.int m_, .int (nI r)]) (rest := []) X dX14_isAllowed_91 (c_X0_has m_ (nI r)) (lw_meth q678) q1244 q90 q677 hd_X0_has (Nat.le_of_ble_eq_true rfl) (Nat.le_of_ble_eq_true rfl) (Nat.le_of_ble_eq_true rfl) (Nat.le_of_ble_eq_true rfl) rfl (Nat.le_of_ble_eq_true rfl)) ?_
              refine jb_if_eq 124 X dX14_isAllowed_94 (by decide) (fun c94 => ?_) (fun c94 => ?_)
              · skip
                refine jv_iinc (v := nI (r + 1)) (lv' := [(2, .int (nI (r + 1))), (3, .ref (R r)), (0, .ref t), (1, .int (nI p_))]) X dX14_isAllowed_124 3 rfl (nI_1 _) (by decide) rfl ?_
                refine jv_goto 62 X dX14_isAllowed_127 (by decide) ?_
                refine jv_lv (lv' := [(0, .ref t), (1, .int (nI p_)), (2, .int (nI (r + 1)))]) [2, 3, 0] rfl ?_
                exact ih_62 (r + 1) (by omega) (by unfold fitN fit1; rw [if_pos hw2, if_pos (hasI_f0 c94)]) (by omega)
              · skip
                refine jv_aload_n X dX14_isAllowed_97 0 rfl ?_
                refine jv_ask (jr_last (rest := []) X dX14_isAllowed_98 q1298 (hR r (by omega)) hW (by omega) (wl_x hW hL (by omega)) (Nat.le_of_ble_eq_true rfl) (Nat.le_of_ble_eq_true rfl) (Nat.le_of_ble_eq_true rfl) (Nat.le_of_ble_eq_true rfl) (Nat.le_of_ble_eq_true rfl)) ?_
                refine jv_iload_n X dX14_isAllowed_101 2 rfl ?_
                refine jn_icmp_ne 124 X dX14_isAllowed_102 (by decide) (by have := lst_6 hW (show r < 30 by omega); omega) (by omega) (fun c102 => ?_) (fun c102 => ?_)
                · skip
                  refine jv_iinc (v := nI (r + 1)) (lv' := [(2, .int (nI (r + 1))), (3, .ref (R r)), (0, .ref t), (1, .int (nI p_))]) X dX14_isAllowed_124 3 rfl (nI_1 _) (by decide) rfl ?_
                  refine jv_goto 62 X dX14_isAllowed_127 (by decide) ?_
                  refine jv_lv (lv' := [(0, .ref t), (1, .int (nI p_)), (2, .int (nI (r + 1)))]) [2, 3, 0] rfl ?_
                  exact ih_62 (r + 1) (by omega) (by unfold fitN fit1; rw [if_pos hw2, if_neg (hasI_t0 c94), if_neg c102]) (by omega)
                · skip
                  refine jv_aload_n X dX14_isAllowed_105 0 rfl ?_
                  refine jv_aload_n X dX14_isAllowed_106 1 rfl ?_
                  refine jv_get X dX14_isAllowed_107 ht (T := TX18) (N := 7) (C := RX18) rfl in_X18 1 (by decide) q1199 rfl rfl ?_
                  refine jv_iload_n X dX14_isAllowed_110 3 rfl ?_
                  refine jv_iald (v := nI (msk S r)) X dX14_isAllowed_111 hma (jn_in (by omega) (by omega)) (by rw [nI_clamp (by omega)]; exact (hgm _ (by omega))) ?_
                  refine jv_aload_n X dX14_isAllowed_112 1 rfl ?_
                  refine jv_get X dX14_isAllowed_113 ht (T := TX18) (N := 7) (C := RX18) rfl in_X18 4 (by decide) q1202 rfl rfl ?_
                  refine jv_ask (jr_isKept (rest := []) X dX14_isAllowed_116 q1312 (hR r (by omega)) hW (by omega) hL (by omega) hsa hgs he64_ he6 (Nat.le_of_ble_eq_true rfl) (Nat.le_of_ble_eq_true rfl) (Nat.le_of_ble_eq_true rfl) (Nat.le_of_ble_eq_true rfl) (Nat.le_of_ble_eq_true rfl)) ?_
                  refine jb_if_ne 124 X dX14_isAllowed_119 (by decide) (fun c119 => ?_) (fun c119 => ?_)
                  · skip
                    refine jv_iinc (v := nI (r + 1)) (lv' := [(2, .int (nI (r + 1))), (3, .ref (R r)), (0, .ref t), (1, .int (nI p_))]) X dX14_isAllowed_124 3 rfl (nI_1 _) (by decide) rfl ?_
                    refine jv_goto 62 X dX14_isAllowed_127 (by decide) ?_
                    refine jv_lv (lv' := [(0, .ref t), (1, .int (nI p_)), (2, .int (nI (r + 1)))]) [2, 3, 0] rfl ?_
                    exact ih_62 (r + 1) (by omega) (by unfold fitN fit1; rw [if_pos hw2, if_neg (hasI_t0 c94), if_pos c102, c119, if_pos rfl]) (by omega)
                  · skip
                    refine jv_iconst (v := nI 0) X dX14_isAllowed_122 rfl ?_
                    exact jv_iret (v := bI false) X dX14_isAllowed_123 (bI_nar _) hQ (Nat.le_of_ble_eq_true rfl) (Nat.le_of_ble_eq_true rfl) ⟨(congrArg bI (show false = fit_ S m_ p_ e from (fitN_f (r := r + 1) (by unfold fitN fit1; rw [if_pos hw2, if_neg (hasI_t0 c94), if_pos c102, c119]; rfl) (by omega)).symm)), rfl⟩
        refine jv_lv (lv' := [(0, .ref t), (1, .int (nI p_)), (2, .int (nI 0))]) [1, 2, 0] rfl ?_
        exact lp62_2 (S 1 + 1) 0 (Nat.zero_le _) (show asaN S p_ e (S 2) = true by rw [← hw1, show i = S 2 by omega]) (by omega)
      · skip
        refine jv_aload_n X dX14_isAllowed_16 0 rfl ?_
        refine jv_get X dX14_isAllowed_17 ht (T := TX18) (N := 7) (C := RX18) rfl in_X18 0 (by decide) q1198 rfl rfl ?_
        refine jv_getN X dX14_isAllowed_20 hb (T := TX1) (N := 3) (C := RX1) rfl in_X1 2 (by decide) q191 rfl rfl ?_
        refine jv_iload_n X dX14_isAllowed_23 2 rfl ?_
        refine jv_callr (jv_runV (As := [.int (nI i)]) (rest := []) X dX14_isAllowed_24 (c_J2_get hla hea i (A i) (by omega) (by omega) (by omega) (by rw [hfa _ (by omega)]; rfl)) (lw_V q1190 q533 q534 q94 q535) hd_J2_get hla rfl (Nat.le_of_ble_eq_true rfl) (Nat.le_of_ble_eq_true rfl) (Nat.le_of_ble_eq_true rfl) (Nat.le_of_ble_eq_true rfl) rfl (Nat.le_of_ble_eq_true rfl)) (fun rr_ M_ h_ => ?_)
        obtain ⟨hr_, hm_⟩ := h_
        rw [hr_, hm_]
        clear hr_ hm_
        refine jv_castS X dX14_isAllowed_27 (hA i (by omega)).2 (r := (RX12, TX12, 2)) rfl q1297 ?_
        refine jv_astore_n (lv' := [(3, .ref (A i)), (0, .ref t), (1, .int (nI p_)), (2, .int (nI i))]) X dX14_isAllowed_30 rfl (by decide) rfl ?_
        refine jv_aload_n X dX14_isAllowed_31 0 rfl ?_
        refine jv_getN X dX14_isAllowed_32 (hA i (by omega)).2 (T := TX12) (N := 2) (C := RX12) rfl in_X12 0 (by decide) q1114 rfl rfl ?_
        refine jv_iload_n X dX14_isAllowed_35 2 rfl ?_
        refine jn_icmp_ne 54 X dX14_isAllowed_36 (by decide) (by have := hW.a0 (show i < 6 by omega); omega) (by omega) (fun c36 => ?_) (fun c36 => ?_)
        · skip
          refine jv_iinc (v := nI (i + 1)) (lv' := [(2, .int (nI (i + 1))), (3, .ref (A i)), (0, .ref t), (1, .int (nI p_))]) X dX14_isAllowed_54 3 rfl (nI_1 _) (by decide) rfl ?_
          refine jv_goto 2 X dX14_isAllowed_57 (by decide) ?_
          refine jv_lv (lv' := [(0, .ref t), (1, .int (nI p_)), (2, .int (nI (i + 1)))]) [2, 3, 0] rfl ?_
          exact ih_2 (i + 1) (by omega) (by unfold asaN; rw [hw1, Bool.true_and, if_neg c36]) (by omega)
        · skip
          refine jv_aload_n X dX14_isAllowed_39 0 rfl ?_
          refine jv_getN X dX14_isAllowed_40 (hA i (by omega)).2 (T := TX12) (N := 2) (C := RX12) rfl in_X12 1 (by decide) q1120 rfl rfl ?_
          refine jv_aload_n X dX14_isAllowed_43 1 rfl ?_
          refine jv_get X dX14_isAllowed_44 ht (T := TX18) (N := 7) (C := RX18) rfl in_X18 4 (by decide) q1202 rfl rfl ?_
          refine jv_iload_n X dX14_isAllowed_47 2 rfl ?_
          refine jv_iald (v := nI (e p_)) X dX14_isAllowed_48 hsa (jn_in (by omega) (by decide)) (by rw [nI_clamp (by omega)]; exact (hgs _ (by omega))) ?_
          refine jn_icmp_eq 54 X dX14_isAllowed_49 (by decide) (by have := hW.a1 (show i < 6 by omega); omega) (Nat.lt_trans (he6 _ (by omega)) (by decide)) (fun c49 => ?_) (fun c49 => ?_)
          · skip
            refine jv_iinc (v := nI (i + 1)) (lv' := [(2, .int (nI (i + 1))), (3, .ref (A i)), (0, .ref t), (1, .int (nI p_))]) X dX14_isAllowed_54 3 rfl (nI_1 _) (by decide) rfl ?_
            refine jv_goto 2 X dX14_isAllowed_57 (by decide) ?_
            refine jv_lv (lv' := [(0, .ref t), (1, .int (nI p_)), (2, .int (nI (i + 1)))]) [2, 3, 0] rfl ?_
            exact ih_2 (i + 1) (by omega) (by unfold asaN; rw [hw1, Bool.true_and, if_pos c36, if_pos c49]) (by omega)
          · skip
            refine jv_iconst (v := nI 0) X dX14_isAllowed_52 rfl ?_
            exact jv_iret (v := bI false) X dX14_isAllowed_53 (bI_nar _) hQ (Nat.le_of_ble_eq_true rfl) (Nat.le_of_ble_eq_true rfl) ⟨(congrArg bI (show false = fit_ S m_ p_ e from (fitN_f (r := 0) (asaN_f c36 (fun z => c49 z) (by omega)) (Nat.zero_le _)).symm)), rfl⟩
  refine jv_lv (lv' := [(0, .ref t), (1, .int (nI p_)), (2, .int (nI 0))]) [1, 2, 0] rfl ?_
  exact lp2_1 (S 2 + 1) 0 (Nat.zero_le _) rfl (by omega)
set_option maxHeartbeats 4000000 in
theorem c_X14_reachedBy_X18 {l : Launch} {G : jv_G} {M : jv_M} {σ : jk_A} (hG : jk_G G σ) {B : jv_M} {τ : Nat → Nat} {b t ma oa sa : Nat} {m_ : Int32} {gp_ : Nat} {xf_ : Int32} {e : Nat → Nat} {S : Nat → Nat} (hB : jbd G B τ b S) (hS : wfS S) (hL : wfL S) (hPP : wfP S) (hse : jse 15 [.int (nI gp_), .int xf_] G B M S b t m_ ma oa sa e) (r : Nat) (a_ : Nat) (w_ : Nat) (hr : r < S 1) (ha_ : jrule G M τ S r a_) (hw_ : w_ < 64) : jv_Ct G l yX14_reachedBy cX14_reachedBy 6 (some .int) 8 0 0 260 [.ref t, .ref a_, .int (nI w_)] M (jv_qi G (jv_pi (nI (rby S e r w_)) M)) := by
  refine jv_Ct.of (lv := [(0, .ref t), (1, .ref a_), (2, .int (nI w_))]) (by decide) (Nat.le_of_ble_eq_true rfl) rfl ?_
  intro x Q_ hl_ hQ X
  subst hl_
  have hB0 := hB
  obtain ⟨⟨ht, hft, hnt⟩, ⟨gm, hma, hgm⟩, ⟨go, hoa, hgo⟩, ⟨gs, hsa, hgs, hfsa, hnsa⟩, he6, hms, hos, hag⟩ := id hse
  replace hB := hB.sub hag hS.1.p
  have hB_ := hB
  obtain ⟨lp, lr, la, P, R, A, hb, hfb, ⟨⟨mp_, ep, fp, hlp, hep, hn6, hfp, -, -, -⟩, hP⟩, ⟨⟨mr_, er, fr_, hlr, her, hn30, hfr_, -, -, -⟩, hR⟩, ⟨ma_, ea, fa, hla, hea, hn6a, hfa, -, -, -⟩, hA⟩ := hB
  have hW := hS.1
  have hp0 := hW.p
  have hr0 := hW.r
  have ha0 := hW.a
  have he64_ : ∀ p, p < 6 → e p < 64 := fun p hp => Nat.lt_trans (he6 p hp) (by decide)
  have hr1_ := hW.r1 (show r < 30 by omega)
  have hr3_ := hW.r3 (show r < 30 by omega)
  refine jv_aload_n X dX14_reachedBy_0 1 rfl ?_
  refine jv_ask (jr_wanted (rest := []) X dX14_reachedBy_1 q1250 ha_ (Nat.le_of_ble_eq_true rfl) (Nat.le_of_ble_eq_true rfl) (Nat.le_of_ble_eq_true rfl) (Nat.le_of_ble_eq_true rfl) (Nat.le_of_ble_eq_true rfl)) ?_
  refine jv_if_lt 14 X dX14_reachedBy_4 (by decide) (fun c4 => ?_) (fun c4 => ?_)
  · skip
    have hk0_ := rWan_lt hr1_ c4
    refine jv_iconst (v := nI 0) X dX14_reachedBy_14 rfl ?_
    refine jv_istore_n (lv' := [(3, .int (nI 0)), (0, .ref t), (1, .ref a_), (2, .int (nI w_))]) X dX14_reachedBy_15 rfl (by decide) rfl ?_
    refine jv_iconst (v := nI 0) X dX14_reachedBy_16 rfl ?_
    refine jv_istore (lv' := [(4, .int (nI 0)), (3, .int (nI 0)), (0, .ref t), (1, .ref a_), (2, .int (nI w_))]) X dX14_reachedBy_17 (by decide) rfl ?_
    have lp19_1 : ∀ (d_19 : Nat) (p : Nat) (w : Nat), p ≤ S 0 → w = rbP S e r w_ p → S 0 - p < d_19 → jv_J x G 6 Q_ M 0 0 19 [(0, .ref t), (1, .ref a_), (2, .int (nI w_)), (3, .int (nI w)), (4, .int (nI p))] [] := by
      intro d_19
      induction d_19 with
      | zero => intro p w hp hw hm_19; exact absurd hm_19 (Nat.not_lt_zero _)
      | succ d_19 ih_19 =>
        intro p w hp hw hm_19
        refine jv_iload X dX14_reachedBy_19 4 rfl ?_
        refine jv_aload_n X dX14_reachedBy_21 0 rfl ?_
        refine jv_get X dX14_reachedBy_22 ht (T := TX18) (N := 7) (C := RX18) rfl in_X18 0 (by decide) q1198 rfl rfl ?_
        refine jv_getN X dX14_reachedBy_25 hb (T := TX1) (N := 3) (C := RX1) rfl in_X1 0 (by decide) q181 rfl rfl ?_
        refine jv_ask (jv_runV (As := []) (rest := [.int (nI p)]) X dX14_reachedBy_28 (c_J2_size hlp) (lw_V q1189 q284 q285 q94 q286) hd_J2_size hlp rfl (Nat.le_of_ble_eq_true rfl) (Nat.le_of_ble_eq_true rfl) (Nat.le_of_ble_eq_true rfl) (Nat.le_of_ble_eq_true rfl) rfl (Nat.le_of_ble_eq_true rfl)) ?_
        refine jn_icmp_ge 84 X dX14_reachedBy_31 (by decide) (by omega) (by omega) (fun c31 => ?_) (fun c31 => ?_)
        · skip
          refine jv_iload_n X dX14_reachedBy_84 3 rfl ?_
          exact jv_iret (v := nI w) X dX14_reachedBy_85 rfl hQ (Nat.le_of_ble_eq_true rfl) (Nat.le_of_ble_eq_true rfl) ⟨(congrArg nI (by unfold rby; rw [if_neg hk0_, hw, show p = S 0 by omega])), rfl⟩
        · skip
          refine jv_iload_n X dX14_reachedBy_34 2 rfl ?_
          refine jv_iload X dX14_reachedBy_35 4 rfl ?_
          refine jv_ask (jv_runSN (As := [.int (nI w_), .int (nI p)]) (rest := []) X dX14_reachedBy_37 (c_X0_has (nI w_) (nI p)) (lw_meth q678) q1244 q90 q677 hd_X0_has (Nat.le_of_ble_eq_true rfl) (Nat.le_of_ble_eq_true rfl) (Nat.le_of_ble_eq_true rfl) (Nat.le_of_ble_eq_true rfl) rfl (Nat.le_of_ble_eq_true rfl)) ?_
          refine jb_if_eq 59 X dX14_reachedBy_40 (by decide) (fun c40 => ?_) (fun c40 => ?_)
          · skip
            refine jv_iconst (v := (-1)) X dX14_reachedBy_59 rfl ?_
            refine jv_istore (lv' := [(5, .int (-1)), (0, .ref t), (1, .ref a_), (2, .int (nI w_)), (3, .int (nI w)), (4, .int (nI p))]) X dX14_reachedBy_60 (by decide) rfl ?_
            refine jv_iload_n X dX14_reachedBy_62 4 rfl ?_
            refine jv_iload X dX14_reachedBy_63 0 rfl ?_
            refine jv_if_lt 75 X dX14_reachedBy_65 (by decide) (fun c65 => ?_) (fun c65 => ?_)
            · skip
              refine jv_iconst (v := nI 0) X dX14_reachedBy_75 rfl ?_
              refine jv_ior (w := nI (w ||| 0)) X dX14_reachedBy_76 (ni_or _ _) ?_
              refine jv_istore_n (lv' := [(3, .int (nI (w ||| 0))), (5, .int (-1)), (0, .ref t), (1, .ref a_), (2, .int (nI w_)), (4, .int (nI p))]) X dX14_reachedBy_77 rfl (by decide) rfl ?_
              refine jv_iinc (v := nI (p + 1)) (lv' := [(4, .int (nI (p + 1))), (3, .int (nI (w ||| 0))), (5, .int (-1)), (0, .ref t), (1, .ref a_), (2, .int (nI w_))]) X dX14_reachedBy_78 5 rfl (nI_1 _) (by decide) rfl ?_
              refine jv_goto 19 X dX14_reachedBy_81 (by decide) ?_
              refine jv_lv (lv' := [(0, .ref t), (1, .ref a_), (2, .int (nI w_)), (3, .int (nI (w ||| 0))), (4, .int (nI (p + 1)))]) [3, 4, 5, 1, 0] rfl ?_
              exact ih_19 (p + 1) (w ||| 0) (by omega) (by rw [hw]; show _ = rbP S e r w_ p ||| (if w_ / 2 ^ p &&& 1 = 1 then (if v_ofRule S r 0 = 1 then (if v_ofRule S r 1 = p ∧ v_ofRule S r 2 = e p then 2 ^ v_ofRule S r 3 else 0) else 0) else 0); rw [if_neg (fun z => by have := hasI_b (u := w_) (k := p) (by omega) (by omega); rw [c40, if_pos z] at this; cases this)]) (by omega)
            · skip
              exact (absurd (by decide) c65)
          · skip
            refine jv_aload_n X dX14_reachedBy_43 1 rfl ?_
            refine jv_iload X dX14_reachedBy_44 4 rfl ?_
            refine jv_aload_n X dX14_reachedBy_46 0 rfl ?_
            refine jv_get X dX14_reachedBy_47 ht (T := TX18) (N := 7) (C := RX18) rfl in_X18 4 (by decide) q1202 rfl rfl ?_
            refine jv_iload X dX14_reachedBy_50 4 rfl ?_
            refine jv_iald (v := nI (e p)) X dX14_reachedBy_52 hsa (jn_in (by omega) (by decide)) (by rw [nI_clamp (by omega)]; exact (hgs _ (by omega))) ?_
            refine jv_ask (jr_reaches (rest := []) X dX14_reachedBy_53 q1260 ha_ hW (by omega) p (e p) (by omega) (Nat.lt_trans (he6 _ (by omega)) (by decide)) (Nat.le_of_ble_eq_true rfl) (Nat.le_of_ble_eq_true rfl) (Nat.le_of_ble_eq_true rfl) (Nat.le_of_ble_eq_true rfl) (Nat.le_of_ble_eq_true rfl)) ?_
            refine jv_goto 60 X dX14_reachedBy_56 (by decide) ?_
            refine jv_istore (lv' := [(5, .int (rRea S r p (e p))), (0, .ref t), (1, .ref a_), (2, .int (nI w_)), (3, .int (nI w)), (4, .int (nI p))]) X dX14_reachedBy_60 (by decide) rfl ?_
            refine jv_iload_n X dX14_reachedBy_62 4 rfl ?_
            refine jv_iload X dX14_reachedBy_63 0 rfl ?_
            refine jv_if_lt 75 X dX14_reachedBy_65 (by decide) (fun c65 => ?_) (fun c65 => ?_)
            · skip
              refine jv_iconst (v := nI 0) X dX14_reachedBy_75 rfl ?_
              refine jv_ior (w := nI (w ||| 0)) X dX14_reachedBy_76 (ni_or _ _) ?_
              refine jv_istore_n (lv' := [(3, .int (nI (w ||| 0))), (5, .int (rRea S r p (e p))), (0, .ref t), (1, .ref a_), (2, .int (nI w_)), (4, .int (nI p))]) X dX14_reachedBy_77 rfl (by decide) rfl ?_
              refine jv_iinc (v := nI (p + 1)) (lv' := [(4, .int (nI (p + 1))), (3, .int (nI (w ||| 0))), (5, .int (rRea S r p (e p))), (0, .ref t), (1, .ref a_), (2, .int (nI w_))]) X dX14_reachedBy_78 5 rfl (nI_1 _) (by decide) rfl ?_
              refine jv_goto 19 X dX14_reachedBy_81 (by decide) ?_
              refine jv_lv (lv' := [(0, .ref t), (1, .ref a_), (2, .int (nI w_)), (3, .int (nI (w ||| 0))), (4, .int (nI (p + 1)))]) [3, 4, 5, 1, 0] rfl ?_
              exact ih_19 (p + 1) (w ||| 0) (by omega) (by rw [hw]; show _ = rbP S e r w_ p ||| (if w_ / 2 ^ p &&& 1 = 1 then (if v_ofRule S r 0 = 1 then (if v_ofRule S r 1 = p ∧ v_ofRule S r 2 = e p then 2 ^ v_ofRule S r 3 else 0) else 0) else 0); rw [if_pos (by have := hasI_b (u := w_) (k := p) (by omega) (by omega); rw [c40] at this; exact Classical.byContradiction fun z => by rw [if_neg z] at this; cases this)]; by_cases e1 : v_ofRule S r 0 = 1; rw [if_pos e1, if_neg (rRea_lt hr3_ c65 e1)]; rw [if_neg e1]) (by omega)
            · skip
              have hq_ := rRea_ge c65
              rw [hq_.2.2]
              refine jv_iconst (v := nI 1) X dX14_reachedBy_68 rfl ?_
              refine jv_iload X dX14_reachedBy_69 0 rfl ?_
              refine jv_ishl (w := nI (2 ^ (v_ofRule S r 3))) X dX14_reachedBy_71 (ni_shl1 (by omega)) ?_
              refine jv_goto 76 X dX14_reachedBy_72 (by decide) ?_
              refine jv_ior (w := nI (w ||| (2 ^ (v_ofRule S r 3)))) X dX14_reachedBy_76 (ni_or _ _) ?_
              refine jv_istore_n (lv' := [(3, .int (nI (w ||| (2 ^ (v_ofRule S r 3))))), (5, .int (nI (v_ofRule S r 3))), (0, .ref t), (1, .ref a_), (2, .int (nI w_)), (4, .int (nI p))]) X dX14_reachedBy_77 rfl (by decide) rfl ?_
              refine jv_iinc (v := nI (p + 1)) (lv' := [(4, .int (nI (p + 1))), (3, .int (nI (w ||| (2 ^ (v_ofRule S r 3))))), (5, .int (nI (v_ofRule S r 3))), (0, .ref t), (1, .ref a_), (2, .int (nI w_))]) X dX14_reachedBy_78 5 rfl (nI_1 _) (by decide) rfl ?_
              refine jv_goto 19 X dX14_reachedBy_81 (by decide) ?_
              refine jv_lv (lv' := [(0, .ref t), (1, .ref a_), (2, .int (nI w_)), (3, .int (nI (w ||| (2 ^ (v_ofRule S r 3))))), (4, .int (nI (p + 1)))]) [3, 4, 5, 1, 0] rfl ?_
              exact ih_19 (p + 1) (w ||| (2 ^ (v_ofRule S r 3))) (by omega) (by rw [hw]; show _ = rbP S e r w_ p ||| (if w_ / 2 ^ p &&& 1 = 1 then (if v_ofRule S r 0 = 1 then (if v_ofRule S r 1 = p ∧ v_ofRule S r 2 = e p then 2 ^ v_ofRule S r 3 else 0) else 0) else 0); rw [if_pos (by have := hasI_b (u := w_) (k := p) (by omega) (by omega); rw [c40] at this; exact Classical.byContradiction fun z => by rw [if_neg z] at this; cases this), if_pos hq_.1, if_pos hq_.2.1]) (by omega)
    refine jv_lv (lv' := [(0, .ref t), (1, .ref a_), (2, .int (nI w_)), (3, .int (nI 0)), (4, .int (nI 0))]) [2, 3, 4, 1, 0] rfl ?_
    exact lp19_1 (S 0 + 1) 0 0 (Nat.zero_le _) rfl (by omega)
  · skip
    refine jv_iconst (v := nI 1) X dX14_reachedBy_7 rfl ?_
    refine jv_aload_n X dX14_reachedBy_8 1 rfl ?_
    refine jv_ask (jr_wanted (rest := [.int (nI 1)]) X dX14_reachedBy_9 q1250 ha_ (Nat.le_of_ble_eq_true rfl) (Nat.le_of_ble_eq_true rfl) (Nat.le_of_ble_eq_true rfl) (Nat.le_of_ble_eq_true rfl) (Nat.le_of_ble_eq_true rfl)) ?_
    have hq_ := rWan_ge c4
    rw [hq_.2]
    refine jv_ishl (w := nI (2 ^ (v_ofRule S r 1))) X dX14_reachedBy_12 (ni_shl1 (by omega)) ?_
    exact jv_iret (v := nI (2 ^ (v_ofRule S r 1))) X dX14_reachedBy_13 rfl hQ (Nat.le_of_ble_eq_true rfl) (Nat.le_of_ble_eq_true rfl) ⟨(congrArg nI (by unfold rby; rw [if_pos hq_.1])), rfl⟩
set_option maxHeartbeats 4000000 in
theorem c_X14_reached_X18 {l : Launch} {G : jv_G} {M : jv_M} {σ : jk_A} (hG : jk_G G σ) {B : jv_M} {τ : Nat → Nat} {b t ma oa sa : Nat} {m_ : Int32} {gp_ : Nat} {xf_ : Int32} {e : Nat → Nat} {S : Nat → Nat} (hB : jbd G B τ b S) (hS : wfS S) (hL : wfL S) (hPP : wfP S) (hse : jse 15 [.int (nI gp_), .int xf_] G B M S b t m_ ma oa sa e)   : jv_Ct G l yX14_reached cX14_reached 4 (some .int) 9 0 0 285 [.ref t] M (jv_qi G (jv_pi (nI (rchT S e m_ (S 0 + 1))) M)) := by
  refine jv_Ct.of (lv := [(0, .ref t)]) (by decide) (Nat.le_of_ble_eq_true rfl) rfl ?_
  intro x Q_ hl_ hQ X
  subst hl_
  have hB0 := hB
  obtain ⟨⟨ht, hft, hnt⟩, ⟨gm, hma, hgm⟩, ⟨go, hoa, hgo⟩, ⟨gs, hsa, hgs, hfsa, hnsa⟩, he6, hms, hos, hag⟩ := id hse
  replace hB := hB.sub hag hS.1.p
  have hB_ := hB
  obtain ⟨lp, lr, la, P, R, A, hb, hfb, ⟨⟨mp_, ep, fp, hlp, hep, hn6, hfp, -, -, -⟩, hP⟩, ⟨⟨mr_, er, fr_, hlr, her, hn30, hfr_, -, -, -⟩, hR⟩, ⟨ma_, ea, fa, hla, hea, hn6a, hfa, -, -, -⟩, hA⟩ := hB
  have hW := hS.1
  have hp0 := hW.p
  have hr0 := hW.r
  have ha0 := hW.a
  have he64_ : ∀ p, p < 6 → e p < 64 := fun p hp => Nat.lt_trans (he6 p hp) (by decide)
  refine jv_iconst (v := nI 0) X dX14_reached_0 rfl ?_
  refine jv_istore_n (lv' := [(1, .int (nI 0)), (0, .ref t)]) X dX14_reached_1 rfl (by decide) rfl ?_
  refine jv_iconst (v := (-1)) X dX14_reached_2 rfl ?_
  refine jv_istore_n (lv' := [(2, .int (-1)), (1, .int (nI 0)), (0, .ref t)]) X dX14_reached_3 rfl (by decide) rfl ?_
  have lp4_1 : ∀ (d_4 : Nat) (w : Nat) (x_ : Int32), w < 64 → (∀ V, rcl S e m_ V → sbs w V) → (x_ = (-1) ∨ ∃ u, u < 64 ∧ x_ = nI u ∧ w = jcR S e m_ u (S 1)) → 2 * (64 - w) + (if x_ = nI w then 0 else 1) < d_4 → jv_J x G 4 Q_ M 0 0 4 [(0, .ref t), (1, .int (nI w)), (2, .int x_)] [] := by
    intro d_4
    induction d_4 with
    | zero => intro w x_ hw hmn hx_ hm_4; exact absurd hm_4 (Nat.not_lt_zero _)
    | succ d_4 ih_4 =>
      intro w x_ hw hmn hx_ hm_4
      refine jv_iload_n X dX14_reached_4 1 rfl ?_
      refine jv_iload_n X dX14_reached_5 2 rfl ?_
      refine jv_icmp_eq 64 X dX14_reached_6 (by decide) (fun c6 => ?_) (fun c6 => ?_)
      · skip
        refine jv_iload_n X dX14_reached_64 1 rfl ?_
        exact jv_iret (v := nI w) X dX14_reached_65 rfl hQ (Nat.le_of_ble_eq_true rfl) (Nat.le_of_ble_eq_true rfl) ⟨(congrArg nI (by rcases hx_ with z | ⟨u, hu, z, z2⟩; exact absurd (c6.trans z) (nI_ne_m1 (by omega)); have h5 : w = u := (nI_eq (by omega) (by omega)).mp (c6.trans z); subst h5; exact rch_e hS z2.symm hmn)), rfl⟩
      · skip
        refine jv_iload_n X dX14_reached_9 1 rfl ?_
        refine jv_istore_n (lv' := [(2, .int (nI w)), (0, .ref t), (1, .int (nI w))]) X dX14_reached_10 rfl (by decide) rfl ?_
        refine jv_iconst (v := nI 0) X dX14_reached_11 rfl ?_
        refine jv_istore_n (lv' := [(3, .int (nI 0)), (2, .int (nI w)), (0, .ref t), (1, .int (nI w))]) X dX14_reached_12 rfl (by decide) rfl ?_
        have lp13_2 : ∀ (d_13 : Nat) (r : Nat) (w2 : Nat), r ≤ S 1 → w2 = jcR S e m_ w r → S 1 - r < d_13 → jv_J x G 4 Q_ M 0 0 13 [(0, .ref t), (2, .int (nI w)), (1, .int (nI w2)), (3, .int (nI r))] [] := by
          intro d_13
          induction d_13 with
          | zero => intro r w2 hr hw2 hm_13; exact absurd hm_13 (Nat.not_lt_zero _)
          | succ d_13 ih_13 =>
            intro r w2 hr hw2 hm_13
            refine jv_iload_n X dX14_reached_13 3 rfl ?_
            refine jv_aload_n X dX14_reached_14 0 rfl ?_
            refine jv_get X dX14_reached_15 ht (T := TX18) (N := 7) (C := RX18) rfl in_X18 1 (by decide) q1199 rfl rfl ?_
            refine jv_alen (t0 := 0) (v := nI (S 1)) X dX14_reached_18 hma rfl rfl ?_
            refine jn_icmp_ge 61 X dX14_reached_19 (by decide) (by omega) (by omega) (fun c19 => ?_) (fun c19 => ?_)
            · skip
              refine jv_goto 4 X dX14_reached_61 (by decide) ?_
              refine jv_lv (lv' := [(0, .ref t), (1, .int (nI w2)), (2, .int (nI w))]) [0, 2, 1] rfl ?_
              exact ih_4 w2 (nI w) (by rw [hw2]; exact jcR_lt hW hw _ (by omega)) (fun V hV => by rw [hw2]; exact jcR_min hV (hmn V hV) _ (by omega)) (Or.inr ⟨w, hw, rfl, by rw [hw2, show r = S 1 by omega]⟩) (by have h1 := (jcR_up S e m_ w r).le; rw [← hw2] at h1; have h3 : w2 < 64 := (by rw [hw2]; exact jcR_lt hW hw _ (by omega)); rw [if_neg (fun z => c6 z.symm)] at hm_4; by_cases h4 : w2 = w; rw [h4, if_pos rfl]; omega; have : (if nI w = nI w2 then 0 else 1) ≤ 1 := (by split <;> omega); omega)
            · skip
              refine jv_aload_n X dX14_reached_22 0 rfl ?_
              refine jv_get X dX14_reached_23 ht (T := TX18) (N := 7) (C := RX18) rfl in_X18 3 (by decide) q1201 rfl rfl ?_
              refine jv_iload_n X dX14_reached_26 3 rfl ?_
              refine jv_ask (jv_runSN (As := [.int m_, .int (nI r)]) (rest := []) X dX14_reached_27 (c_X0_has m_ (nI r)) (lw_meth q678) q1244 q90 q677 hd_X0_has (Nat.le_of_ble_eq_true rfl) (Nat.le_of_ble_eq_true rfl) (Nat.le_of_ble_eq_true rfl) (Nat.le_of_ble_eq_true rfl) rfl (Nat.le_of_ble_eq_true rfl)) ?_
              refine jb_if_eq 55 X dX14_reached_30 (by decide) (fun c30 => ?_) (fun c30 => ?_)
              · skip
                refine jv_iinc (v := nI (r + 1)) (lv' := [(3, .int (nI (r + 1))), (0, .ref t), (2, .int (nI w)), (1, .int (nI w2))]) X dX14_reached_55 3 rfl (nI_1 _) (by decide) rfl ?_
                refine jv_goto 13 X dX14_reached_58 (by decide) ?_
                refine jv_lv (lv' := [(0, .ref t), (2, .int (nI w)), (1, .int (nI w2)), (3, .int (nI (r + 1)))]) [1, 2, 3, 0] rfl ?_
                exact ih_13 (r + 1) w2 (by omega) (by rw [hw2]; show _ = jcR S e m_ w r ||| (if (m_ >>> (nI r &&& 31)) &&& nI 1 = nI 1 then rby S e r w else 0); rw [if_neg (hasI_f1 c30), Nat.or_zero]) (by omega)
              · skip
                refine jv_iload_n X dX14_reached_33 2 rfl ?_
                refine jv_aload_n X dX14_reached_34 0 rfl ?_
                refine jv_aload_n X dX14_reached_35 0 rfl ?_
                refine jv_get X dX14_reached_36 ht (T := TX18) (N := 7) (C := RX18) rfl in_X18 0 (by decide) q1198 rfl rfl ?_
                refine jv_getN X dX14_reached_39 hb (T := TX1) (N := 3) (C := RX1) rfl in_X1 1 (by decide) q187 rfl rfl ?_
                refine jv_iload_n X dX14_reached_42 3 rfl ?_
                refine jv_callr (jv_runV (As := [.int (nI r)]) (rest := [.ref t, .int (nI w2)]) X dX14_reached_43 (c_J2_get hlr her r (R r) (by omega) (by omega) (by omega) (by rw [hfr_ _ (by omega)]; rfl)) (lw_V q1190 q533 q534 q94 q535) hd_J2_get hlr rfl (Nat.le_of_ble_eq_true rfl) (Nat.le_of_ble_eq_true rfl) (Nat.le_of_ble_eq_true rfl) (Nat.le_of_ble_eq_true rfl) rfl (Nat.le_of_ble_eq_true rfl)) (fun rr_ M_ h_ => ?_)
                obtain ⟨hr_, hm_⟩ := h_
                rw [hr_, hm_]
                clear hr_ hm_
                refine jr_cast X dX14_reached_46 q1245 (hR r (by omega)) ?_
                refine jv_iload_n X dX14_reached_49 1 rfl ?_
                refine jv_ask (jv_runU (As := [.ref (R r), .int (nI w)]) (rest := [.int (nI w2)]) X dX14_reached_50 (c_X14_reachedBy_X18 hG hB0 hS hL hPP hse r (R r) w (by omega) (hR r (by omega)) hw) (jv_cuP X q1246 q2474 q1247 q1248 q122 q1249 q1415 ⟨by decide, by decide⟩ hd_X14_reachedBy (Nat.le_of_ble_eq_true rfl) (Nat.le_of_ble_eq_true rfl)) ht (show jv_cl[15]? = some (RX18, TX18, 7) from rfl) (Nat.le_of_ble_eq_true rfl) (Nat.le_of_ble_eq_true rfl) rfl (Nat.le_of_ble_eq_true rfl)) ?_
                refine jv_ior (w := nI (w2 ||| (rby S e r w))) X dX14_reached_53 (ni_or _ _) ?_
                refine jv_istore_n (lv' := [(1, .int (nI (w2 ||| (rby S e r w)))), (0, .ref t), (2, .int (nI w)), (3, .int (nI r))]) X dX14_reached_54 rfl (by decide) rfl ?_
                refine jv_iinc (v := nI (r + 1)) (lv' := [(3, .int (nI (r + 1))), (1, .int (nI (w2 ||| (rby S e r w)))), (0, .ref t), (2, .int (nI w))]) X dX14_reached_55 3 rfl (nI_1 _) (by decide) rfl ?_
                refine jv_goto 13 X dX14_reached_58 (by decide) ?_
                refine jv_lv (lv' := [(0, .ref t), (2, .int (nI w)), (1, .int (nI (w2 ||| (rby S e r w)))), (3, .int (nI (r + 1)))]) [2, 3, 1, 0] rfl ?_
                exact ih_13 (r + 1) (w2 ||| (rby S e r w)) (by omega) (by rw [hw2]; show _ = jcR S e m_ w r ||| (if (m_ >>> (nI r &&& 31)) &&& nI 1 = nI 1 then rby S e r w else 0); rw [if_pos (hasI_t c30)]) (by omega)
        refine jv_lv (lv' := [(0, .ref t), (2, .int (nI w)), (1, .int (nI w)), (3, .int (nI 0))]) [2, 1, 3, 0] rfl ?_
        exact lp13_2 (S 1 + 1) 0 w (Nat.zero_le _) rfl (by omega)
  refine jv_lv (lv' := [(0, .ref t), (1, .int (nI 0)), (2, .int (-1))]) [2, 1, 0] rfl ?_
  exact lp4_1 (129 + 1) 0 (-1) (by decide) (fun V _ => sbs.zero) (Or.inl rfl) (by split <;> omega)
set_option maxHeartbeats 4000000 in
theorem c_X14_areReached_X18 {l : Launch} {G : jv_G} {M : jv_M} {σ : jk_A} (hG : jk_G G σ) {B : jv_M} {τ : Nat → Nat} {b t ma oa sa : Nat} {m_ : Int32} {gp_ : Nat} {xf_ : Int32} {e : Nat → Nat} {S : Nat → Nat} (hB : jbd G B τ b S) (hS : wfS S) (hL : wfL S) (hPP : wfP S) (hse : jse 15 [.int (nI gp_), .int xf_] G B M S b t m_ ma oa sa e)   : jv_Ct G l yX14_areReached cX14_areReached 3 (some .boolean) 10 0 0 308 [.ref t] M (jv_qi G (jv_pi (bI (decide (unr S e m_ = (-1)))) M)) := by
  refine jv_Ct.of (lv := [(0, .ref t)]) (by decide) (Nat.le_of_ble_eq_true rfl) rfl ?_
  intro x Q_ hl_ hQ X
  subst hl_
  have hB0 := hB
  obtain ⟨⟨ht, hft, hnt⟩, ⟨gm, hma, hgm⟩, ⟨go, hoa, hgo⟩, ⟨gs, hsa, hgs, hfsa, hnsa⟩, he6, hms, hos, hag⟩ := id hse
  replace hB := hB.sub hag hS.1.p
  have hB_ := hB
  obtain ⟨lp, lr, la, P, R, A, hb, hfb, ⟨⟨mp_, ep, fp, hlp, hep, hn6, hfp, -, -, -⟩, hP⟩, ⟨⟨mr_, er, fr_, hlr, her, hn30, hfr_, -, -, -⟩, hR⟩, ⟨ma_, ea, fa, hla, hea, hn6a, hfa, -, -, -⟩, hA⟩ := hB
  have hW := hS.1
  have hp0 := hW.p
  have hr0 := hW.r
  have ha0 := hW.a
  have he64_ : ∀ p, p < 6 → e p < 64 := fun p hp => Nat.lt_trans (he6 p hp) (by decide)
  refine jv_aload_n X dX14_areReached_0 0 rfl ?_
  refine jv_ask (jv_runU (As := []) (rest := []) X dX14_areReached_1 (c_X14_reached_X18 hG hB0 hS hL hPP hse) (jv_cuI X (lw_U (x := yX14_reached) q1236 q1238 q1241 q1237 q122 q1243) rfl ⟨by decide, by decide⟩ hd_X14_reached (Nat.le_of_ble_eq_true rfl) (Nat.le_of_ble_eq_true rfl)) ht (show jv_cl[15]? = some (RX18, TX18, 7) from rfl) (Nat.le_of_ble_eq_true rfl) (Nat.le_of_ble_eq_true rfl) rfl (Nat.le_of_ble_eq_true rfl)) ?_
  refine jv_istore_n (lv' := [(1, .int (nI (rchT S e m_ (S 0 + 1)))), (0, .ref t)]) X dX14_areReached_4 rfl (by decide) rfl ?_
  have hrl_ := rchT_lt hW (c := e) (m := m_) (t := S 0 + 1)
  refine jv_iconst (v := nI 0) X dX14_areReached_5 rfl ?_
  refine jv_istore_n (lv' := [(2, .int (nI 0)), (1, .int (nI (rchT S e m_ (S 0 + 1)))), (0, .ref t)]) X dX14_areReached_6 rfl (by decide) rfl ?_
  have lp7_1 : ∀ (d_7 : Nat) (p : Nat), p ≤ S 0 → unr S e m_ = unrN e (rchT S e m_ (S 0 + 1)) (S 0 - p) p → S 0 - p < d_7 → jv_J x G 3 Q_ M 0 0 7 [(0, .ref t), (1, .int (nI (rchT S e m_ (S 0 + 1)))), (2, .int (nI p))] [] := by
    intro d_7
    induction d_7 with
    | zero => intro p hp hw hm_7; exact absurd hm_7 (Nat.not_lt_zero _)
    | succ d_7 ih_7 =>
      intro p hp hw hm_7
      refine jv_iload_n X dX14_areReached_7 2 rfl ?_
      refine jv_aload_n X dX14_areReached_8 0 rfl ?_
      refine jv_get X dX14_areReached_9 ht (T := TX18) (N := 7) (C := RX18) rfl in_X18 0 (by decide) q1198 rfl rfl ?_
      refine jv_getN X dX14_areReached_12 hb (T := TX1) (N := 3) (C := RX1) rfl in_X1 0 (by decide) q181 rfl rfl ?_
      refine jv_ask (jv_runV (As := []) (rest := [.int (nI p)]) X dX14_areReached_15 (c_J2_size hlp) (lw_V q1189 q284 q285 q94 q286) hd_J2_size hlp rfl (Nat.le_of_ble_eq_true rfl) (Nat.le_of_ble_eq_true rfl) (Nat.le_of_ble_eq_true rfl) (Nat.le_of_ble_eq_true rfl) rfl (Nat.le_of_ble_eq_true rfl)) ?_
      refine jn_icmp_ge 47 X dX14_areReached_18 (by decide) (by omega) (by omega) (fun c18 => ?_) (fun c18 => ?_)
      · skip
        refine jv_iconst (v := nI 1) X dX14_areReached_47 rfl ?_
        exact jv_iret (v := bI true) X dX14_areReached_48 (bI_nar _) hQ (Nat.le_of_ble_eq_true rfl) (Nat.le_of_ble_eq_true rfl) ⟨(congrArg bI (decide_eq_true (by rw [hw, show S 0 - p = 0 by omega]; rfl)).symm), rfl⟩
      · skip
        refine jv_aload_n X dX14_areReached_21 0 rfl ?_
        refine jv_get X dX14_areReached_22 ht (T := TX18) (N := 7) (C := RX18) rfl in_X18 4 (by decide) q1202 rfl rfl ?_
        refine jv_iload_n X dX14_areReached_25 2 rfl ?_
        refine jv_iald (v := nI (e p)) X dX14_areReached_26 hsa (jn_in (by omega) (by decide)) (by rw [nI_clamp (by omega)]; exact (hgs _ (by omega))) ?_
        refine jv_iconst (v := nI 5) X dX14_areReached_27 rfl ?_
        refine jn_icmp_eq 41 X dX14_areReached_28 (by decide) (Nat.lt_trans (he6 _ (by omega)) (by decide)) (by decide) (fun c28 => ?_) (fun c28 => ?_)
        · skip
          refine jv_iinc (v := nI (p + 1)) (lv' := [(2, .int (nI (p + 1))), (0, .ref t), (1, .int (nI (rchT S e m_ (S 0 + 1))))]) X dX14_areReached_41 2 rfl (nI_1 _) (by decide) rfl ?_
          refine jv_goto 7 X dX14_areReached_44 (by decide) ?_
          refine jv_lv (lv' := [(0, .ref t), (1, .int (nI (rchT S e m_ (S 0 + 1)))), (2, .int (nI (p + 1)))]) [1, 2, 0] rfl ?_
          exact ih_7 (p + 1) (by omega) (by rw [hw, show S 0 - p = (S 0 - (p + 1)) + 1 by omega, unrN, if_pos c28]) (by omega)
        · skip
          refine jv_iload_n X dX14_areReached_31 1 rfl ?_
          refine jv_iload_n X dX14_areReached_32 2 rfl ?_
          refine jv_ask (jv_runSN (As := [.int (nI (rchT S e m_ (S 0 + 1))), .int (nI p)]) (rest := []) X dX14_areReached_33 (c_X0_has (nI (rchT S e m_ (S 0 + 1))) (nI p)) (lw_meth q678) q1244 q90 q677 hd_X0_has (Nat.le_of_ble_eq_true rfl) (Nat.le_of_ble_eq_true rfl) (Nat.le_of_ble_eq_true rfl) (Nat.le_of_ble_eq_true rfl) rfl (Nat.le_of_ble_eq_true rfl)) ?_
          refine jb_if_ne 41 X dX14_areReached_36 (by decide) (fun c36 => ?_) (fun c36 => ?_)
          · skip
            refine jv_iinc (v := nI (p + 1)) (lv' := [(2, .int (nI (p + 1))), (0, .ref t), (1, .int (nI (rchT S e m_ (S 0 + 1))))]) X dX14_areReached_41 2 rfl (nI_1 _) (by decide) rfl ?_
            refine jv_goto 7 X dX14_areReached_44 (by decide) ?_
            refine jv_lv (lv' := [(0, .ref t), (1, .int (nI (rchT S e m_ (S 0 + 1)))), (2, .int (nI (p + 1)))]) [1, 2, 0] rfl ?_
            exact ih_7 (p + 1) (by omega) (by rw [hw, show S 0 - p = (S 0 - (p + 1)) + 1 by omega, unrN, if_neg c28, if_neg (fun z => by have h := hasI_b (u := rchT S e m_ (S 0 + 1)) (k := p) (by omega) (by omega); rw [c36, if_neg (by rw [z]; decide)] at h; cases h)]) (by omega)
          · skip
            refine jv_iconst (v := nI 0) X dX14_areReached_39 rfl ?_
            exact jv_iret (v := bI false) X dX14_areReached_40 (bI_nar _) hQ (Nat.le_of_ble_eq_true rfl) (Nat.le_of_ble_eq_true rfl) ⟨(congrArg bI (decide_eq_false (by rw [hw, show S 0 - p = (S 0 - (p + 1)) + 1 by omega, unrN, if_neg c28, if_pos (by have h := hasI_b (u := rchT S e m_ (S 0 + 1)) (k := p) (by omega) (by omega); rw [c36] at h; exact Classical.byContradiction fun z => by rw [if_pos (by rw [Nat.and_one_is_mod] at z ⊢; omega)] at h; cases h)]; exact nI_ne_m1 (by omega))).symm), rfl⟩
  refine jv_lv (lv' := [(0, .ref t), (1, .int (nI (rchT S e m_ (S 0 + 1)))), (2, .int (nI 0))]) [2, 1, 0] rfl ?_
  exact lp7_1 (S 0 + 1) 0 (Nat.zero_le _) rfl (by omega)
