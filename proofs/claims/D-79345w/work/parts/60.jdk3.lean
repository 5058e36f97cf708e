/-! JDK, third: lists that grow -/
set_option maxRecDepth 100000
/-- a list that may grow: empty over the shared array, or with an array of its own -/
def jdl (G : jv_G) (σ : jk_A) (M : jv_M) (a n N e : Nat) (f : Nat → Option Nat) (mc : Int32) : Prop := M a = some (.inr (20, [.int mc, .ref e, .int (nI n)])) ∧ G.1 ≤ a ∧ n ≤ N ∧ N ≤ 60 ∧ ((n = 0 ∧ N = 0 ∧ e = σ.2.2 2) ∨ (10 ≤ N ∧ M e = some (.inl (G.2.2.1 1, N, .inr (.inr (.inr (.inr f))))) ∧ G.1 ≤ e))
def jex (M M' : jv_M) (a e : Nat) : Prop := ∀ b, M b ≠ none → b ≠ a → b ≠ e → M' b = M b
/-- what a list's add does to the other cells: its array stays or is another one -/
def jadd (M M' : jv_M) (a e e' N : Nat) : Prop := (e' = e ∧ 10 ≤ N ∧ jex M M' a e) ∨ (M e' = none ∧ jex M M' a a)
theorem jadd.keep {M M' : jv_M} {a e e' N b : Nat} {c : va_E} (h : jadd M M' a e e' N) (hb : M b = some c) (h1 : b ≠ a) (h2 : 10 ≤ N → b ≠ e) : M' b = some c := by
  rcases h with ⟨-, hN, h⟩ | ⟨-, h⟩
  · exact (h b (by rw [hb]; exact nofun) h1 (h2 hN)).trans hb
  · exact (h b (by rw [hb]; exact nofun) h1 h1).trans hb
theorem jdl.arr {G : jv_G} {σ : jk_A} {M : jv_M} {a n N e : Nat} {f : Nat → Option Nat} {mc : Int32} (h : jdl G σ M a n N e f mc) (hN : 10 ≤ N) : M e = some (.inl (G.2.2.1 1, N, .inr (.inr (.inr (.inr f))))) ∧ G.1 ≤ e := by
  rcases h.2.2.2.2 with ⟨_, h, _⟩ | ⟨_, h⟩
  · omega
  · exact h
theorem jdl.ten {G : jv_G} {σ : jk_A} {M : jv_M} {a n N e : Nat} {f : Nat → Option Nat} {mc : Int32} (h : jdl G σ M a n N e f mc) (hn : 0 < n) : 10 ≤ N := by
  rcases h.2.2.2.2 with ⟨_, _, _⟩ | ⟨h, _⟩
  · omega
  · exact h
theorem jdl.kp {G : jv_G} {σ : jk_A} {M M' : jv_M} {a n N e : Nat} {f : Nat → Option Nat} {mc : Int32} (h : jdl G σ M a n N e f mc) (h1 : M' a = M a) (h2 : 10 ≤ N → M' e = M e) : jdl G σ M' a n N e f mc :=
  ⟨h1.trans h.1, h.2.1, h.2.2.1, h.2.2.2.1, h.2.2.2.2.imp id (fun z => ⟨z.1, (h2 z.1).trans z.2.1, z.2.2⟩)⟩
theorem jk_F.ded {B : Nat} {σ : jk_A} {U : State} (h : jk_F B σ U) : va_T (.object "java/lang/Object") (σ.2.2 2) 0 (fun _ => .null) (fun q => B ≤ q) U U.heap := h.2.2.1.2.2.1.2
theorem jk_F.de {B : Nat} {σ : jk_A} {U : State} (h : jk_F B σ U) : va_Z "java/util/ArrayList" "DEFAULTCAPACITY_EMPTY_ELEMENTDATA" "[Ljava/lang/Object;" (.ref (σ.2.2 2)) (fun q => B ≤ q) U U.heap := h.2.2.1.2.2.1.1
theorem jdl_old {M : jv_M} {a q e : Nat} {x y : va_E} (h : M q = none) : jex M (jv_up (jv_up M q x) a y) a e := fun b hb h1 h2 => by
  rw [jv_up_n h1, jv_up_n (fun z => hb (by rw [z]; exact h))]
theorem hd_J2_init_2 : jv_dd yJ2_init_2 0 := by unfold jv_dd; decide +kernel
set_option maxHeartbeats 4000000 in
theorem c_J2_init_2 {l : Launch} {G : jv_G} {M : jv_M} {σ : jk_A} (hG : jk_G G σ) {a : Nat} (ha : M a = some (.inr (20, [.int 0, .null, .int 0]))) (hfa : G.1 ≤ a)   : jv_Ct G l yJ2_init_2 cJ2_init_2 1 (none) 3 0 0 70 [.ref a] M (jv_qv G (fun M' => M' = jv_up M a (.inr (20, [.int (nI 0), .ref (σ.2.2 2), .int 0])))) := by
  refine jv_Ct.of (lv := [(0, .ref a)]) (by decide) (Nat.le_of_ble_eq_true rfl) rfl ?_
  intro x Q_ hl_ hQ X
  subst hl_
  refine jv_aload_n X dJ2_init_2_0 0 rfl ?_
  refine jv_callv (jv_runI (As := []) (rest := []) X dJ2_init_2_1 (c_J1_init ha hfa) (lw_meth q155) q93 q153 q154 rfl hd_J1_init (Nat.le_of_ble_eq_true rfl) (Nat.le_of_ble_eq_true rfl) (Nat.le_of_ble_eq_true rfl) (Nat.le_of_ble_eq_true rfl) rfl (Nat.le_of_ble_eq_true rfl)) (fun M_ h_ => ?_)
  rw [h_]
  clear h_
  refine jv_aload_n X dJ2_init_2_4 0 rfl ?_
  refine jv_gets (v := .ref (σ.2.2 2)) X dJ2_init_2_5 (hG.f X).de q438 ?_
  refine jv_put (fs' := [.int (nI 0), .ref (σ.2.2 2), .int 0]) X dJ2_init_2_8 jv_up_s hfa (T := TJ2) (N := 3) (C := RJ2) rfl in_J2 tyJ2 tyJ2_ok nmJ2 1 (by decide) q164 rfl rfl  rfl rfl rfl (show 1 < 3 from by decide) rfl ?_
  rw [jv_up_up]
  exact jv_vret X dJ2_init_2_11 hQ (Nat.le_of_ble_eq_true rfl) (Nat.le_of_ble_eq_true rfl) rfl
theorem hd_J9_copyOf_2 : jv_dd yJ9_copyOf_2 3 := by unfold jv_dd; decide +kernel
set_option maxHeartbeats 4000000 in
theorem c_J9_copyOf_2 {l : Launch} {G : jv_G} {M : jv_M} {σ : jk_A} (hG : jk_G G σ) {e N : Nat} {f : Nat → Option Nat} (he : M e = some (.inl (G.2.2.1 1, N, .inr (.inr (.inr (.inr f)))))) (hfe : G.1 ≤ e) (hN : N < 2 ^ 20) (w_ : Nat) (hw : w_ ≤ 60) (hel : ∀ i, i < N → i < w_ → ∀ v, f i = some v → jobj M v) : jv_Ct G l yJ9_copyOf_2 cJ9_copyOf_2 4 (some (.array (.object "java/lang/Object"))) 1 1 60 30 [.ref e, .int (nI w_), .ref (σ.2.2 5)] M (jv_qr G (fun r M' => M r = none ∧ G.1 ≤ r ∧ M' = jv_up M r (.inl (G.2.2.1 1, w_, .inr (.inr (.inr (.inr (va_cpy f (fun _ => none) 0 0 (if N ≤ w_ then N else w_))))))))) := by
  refine jv_Ct.of (lv := [(0, .ref e), (1, .int (nI w_)), (2, .ref (σ.2.2 5))]) (by decide) (Nat.le_of_ble_eq_true rfl) rfl ?_
  intro x Q_ hl_ hQ X
  subst hl_
  refine jv_aload_n X dJ9_copyOf_2_0 2 rfl ?_
  refine jv_ldcM X dJ9_copyOf_2_1 hG q384 ?_
  refine jv_acmp_ne 13 X dJ9_copyOf_2_3 (by decide) (fun h_ => absurd rfl h_) (fun _ => ?_)
  refine jv_iload_n X dJ9_copyOf_2_6 1 rfl ?_
  refine jv_newq (N := w_) (k1 := 1) (n1 := 0 + w_) X dJ9_copyOf_2_7 q385 (hG.f X).2.2.2.2.1 (Int32.not_lt.mpr (nI_pos' (by omega))) (nI_clamp (by omega)) (by omega) rfl rfl (Nat.le_of_ble_eq_true rfl) (by omega) (fun q_2 hnq_2 hbq_2 => ?_)
  refine jv_goto 24 X dJ9_copyOf_2_10 (by decide) ?_
  refine jv_astore_n (lv' := [(3, .ref q_2), (0, .ref e), (1, .int (nI w_)), (2, .ref (σ.2.2 5))]) X dJ9_copyOf_2_24 rfl (by decide) rfl ?_
  refine jv_aload_n X dJ9_copyOf_2_25 1 rfl ?_
  refine jv_iconst (v := nI 0) X dJ9_copyOf_2_26 rfl ?_
  refine jv_aload_n X dJ9_copyOf_2_27 0 rfl ?_
  refine jv_iconst (v := nI 0) X dJ9_copyOf_2_28 rfl ?_
  refine jv_aload_n X dJ9_copyOf_2_29 1 rfl ?_
  refine jv_alen (t0 := 1) (v := nI N) X dJ9_copyOf_2_30 ((jag.new jag.rf hnq_2).c he) rfl rfl ?_
  refine jv_iload_n X dJ9_copyOf_2_31 2 rfl ?_
  refine jv_mmin (w := nI (if N ≤ w_ then N else w_)) X dJ9_copyOf_2_32 q386 q387 q104 q388 (Nat.le_of_ble_eq_true rfl) (Nat.le_of_ble_eq_true rfl) (Nat.le_of_ble_eq_true rfl) (by omega) (mn_n (by omega) (by omega)) ?_
  refine jv_copyq (h := va_cpy f (fun _ => none) 0 0 (if N ≤ w_ then N else w_)) X dJ9_copyOf_2_35 q389 q391 q390 q105 ((jag.new jag.rf hnq_2).c he) jv_up_s hfe hbq_2 (by (repeat' split) <;> omega) (by (repeat' split) <;> omega) (by omega) (by omega) (fun i hi v hv => by
      obtain ⟨c1, c2, c3, c4, c5, c6⟩ := hel i (by split at hi <;> omega) (by split at hi <;> omega) v (by rw [Nat.zero_add] at hv; exact hv)
      exact ⟨c1, c2, c3, jag.c (jag.new jag.rf hnq_2) c4, c5, c6⟩) (Nat.le_of_ble_eq_true rfl) (Nat.le_of_ble_eq_true rfl) rfl ?_
  rw [jv_up_up]
  refine jv_aload_n X dJ9_copyOf_2_38 0 rfl ?_
  exact jv_aret X dJ9_copyOf_2_39 (by first | exact Or.inl ⟨_, rfl⟩ | exact Or.inr ⟨_, rfl⟩) hQ (Nat.le_of_ble_eq_true rfl) (by omega) ⟨hnq_2, hbq_2, rfl⟩
theorem hd_J9_copyOf : jv_dd yJ9_copyOf 2 := by unfold jv_dd; decide +kernel
set_option maxHeartbeats 4000000 in
theorem c_J9_copyOf {l : Launch} {G : jv_G} {M : jv_M} {σ : jk_A} (hG : jk_G G σ) {e N : Nat} {f : Nat → Option Nat} (he : M e = some (.inl (G.2.2.1 1, N, .inr (.inr (.inr (.inr f)))))) (hfe : G.1 ≤ e) (hN : N < 2 ^ 20) (w_ : Nat) (hw : w_ ≤ 60) (hel : ∀ i, i < N → i < w_ → ∀ v, f i = some v → jobj M v) : jv_Ct G l yJ9_copyOf cJ9_copyOf 2 (some (.array (.object "java/lang/Object"))) 2 1 60 53 [.ref e, .int (nI w_)] M (jv_qr G (fun r M' => M r = none ∧ G.1 ≤ r ∧ M' = jv_up M r (.inl (G.2.2.1 1, w_, .inr (.inr (.inr (.inr (va_cpy f (fun _ => none) 0 0 (if N ≤ w_ then N else w_))))))))) := by
  refine jv_Ct.of (lv := [(0, .ref e), (1, .int (nI w_))]) (by decide) (Nat.le_of_ble_eq_true rfl) rfl ?_
  intro x Q_ hl_ hQ X
  subst hl_
  refine jv_aload_n X dJ9_copyOf_0 0 rfl ?_
  refine jv_iload_n X dJ9_copyOf_1 1 rfl ?_
  refine jv_aload_n X dJ9_copyOf_2 0 rfl ?_
  refine jv_getC X dJ9_copyOf_3 hG q402 q2530 q2529 q403 q430 he (Nat.le_of_ble_eq_true rfl) (Nat.le_of_ble_eq_true rfl) ?_
  refine jv_callr (jv_runS (As := [.ref e, .int (nI w_), .ref (σ.2.2 5)]) (rest := []) X dJ9_copyOf_6 (c_J9_copyOf_2 hG he hfe (by omega) w_ (by omega) hel) (lw_S q431 q432 q103 q433) hd_J9_copyOf_2 (Nat.le_of_ble_eq_true rfl) (Nat.le_of_ble_eq_true rfl) (by omega) (by omega) rfl (Nat.le_of_ble_eq_true rfl)) (fun q_1 M_ h_ => ?_)
  obtain ⟨hnq_1, hbq_1, hm_⟩ := h_
  rw [hm_]
  clear hm_
  exact jv_aret X dJ9_copyOf_9 (by first | exact Or.inl ⟨_, rfl⟩ | exact Or.inr ⟨_, rfl⟩) hQ (Nat.le_of_ble_eq_true rfl) (Nat.le_of_ble_eq_true rfl) ⟨hnq_1, hbq_1, rfl⟩
theorem hd_J11_newLength : jv_dd yJ11_newLength 3 := by unfold jv_dd; decide +kernel
set_option maxHeartbeats 4000000 in
theorem c_J11_newLength {l : Launch} {G : jv_G} {M : jv_M} (o : Nat) (mi : Nat) (pr : Nat) (ho1 : 1 ≤ o) (ho : o < 100000) (hm : mi < 100000) (hp : pr < 100000) : jv_Ct G l yJ11_newLength cJ11_newLength 4 (some .int) 1 0 0 30 [.int (nI o), .int (nI mi), .int (nI pr)] M (jv_qi G (jv_pi (nI (o + (if pr ≤ mi then mi else pr))) M)) := by
  refine jv_Ct.of (lv := [(0, .int (nI o)), (1, .int (nI mi)), (2, .int (nI pr))]) (by decide) (Nat.le_of_ble_eq_true rfl) rfl ?_
  intro x Q_ hl_ hQ X
  subst hl_
  refine jv_iload_n X dJ11_newLength_0 0 rfl ?_
  refine jv_iload_n X dJ11_newLength_1 1 rfl ?_
  refine jv_iload_n X dJ11_newLength_2 2 rfl ?_
  refine jv_mmax (w := nI (if pr ≤ mi then mi else pr)) X dJ11_newLength_3 q443 q444 q104 q445 (Nat.le_of_ble_eq_true rfl) (Nat.le_of_ble_eq_true rfl) (Nat.le_of_ble_eq_true rfl) (Nat.le_of_ble_eq_true rfl) (mx_n (by omega) (by omega)) ?_
  refine jv_iadd (w := nI (o + (if pr ≤ mi then mi else pr))) X dJ11_newLength_6 (nI_add _ _) ?_
  refine jv_istore_n (lv' := [(3, .int (nI (o + (if pr ≤ mi then mi else pr)))), (0, .int (nI o)), (1, .int (nI mi)), (2, .int (nI pr))]) X dJ11_newLength_7 rfl (by decide) rfl ?_
  refine jv_iconst (v := nI 0) X dJ11_newLength_8 rfl ?_
  refine jv_iload_n X dJ11_newLength_9 0 rfl ?_
  refine jn_icmp_ge 21 X dJ11_newLength_10 (by decide) (by decide) (by split <;> omega) (fun c10 => ?_) (fun c10 => ?_)
  · skip
    exact (absurd c10 (by omega))
  · skip
    refine jv_iload_n X dJ11_newLength_13 0 rfl ?_
    refine jv_ldc (v := nI 2147483639) X dJ11_newLength_14 q446 ?_
    refine jn_icmp_gt 21 X dJ11_newLength_16 (by decide) (by split <;> omega) (by decide) (fun c16 => ?_) (fun c16 => ?_)
    · skip
      exact (absurd c16 (by split <;> omega))
    · skip
      refine jv_iload_n X dJ11_newLength_19 0 rfl ?_
      exact jv_iret (v := nI (o + (if pr ≤ mi then mi else pr))) X dJ11_newLength_20 rfl hQ (Nat.le_of_ble_eq_true rfl) (Nat.le_of_ble_eq_true rfl) ⟨rfl, rfl⟩
theorem hd_J2_grow : jv_dd yJ2_grow 1 := by unfold jv_dd; decide +kernel
set_option maxHeartbeats 4000000 in
theorem c_J2_grow_0 {l : Launch} {G : jv_G} {M : jv_M} {σ : jk_A} (hG : jk_G G σ) {a : Nat} {mc : Int32} {n : Nat} (ha : M a = some (.inr (20, [.int mc, .ref (σ.2.2 2), .int (nI n)]))) (hfa : G.1 ≤ a) (mn : Nat) (hm : mn ≤ 10) : jv_Ct G l yJ2_grow cJ2_grow 4 (some (.array (.object "java/lang/Object"))) 4 1 60 140 [.ref a, .int (nI mn)] M (jv_qr G (fun r M' => M r = none ∧ G.1 ≤ r ∧ M' = jv_up (jv_up M r (.inl (G.2.2.1 1, 10, .inr (.inr (.inr (.inr (fun _ => none))))))) a (.inr (20, [.int mc, .ref r, .int (nI n)])))) := by
  refine jv_Ct.of (lv := [(0, .ref a), (1, .int (nI mn))]) (by decide) (Nat.le_of_ble_eq_true rfl) rfl ?_
  intro x Q_ hl_ hQ X
  subst hl_
  refine jv_aload_n X dJ2_grow_0 0 rfl ?_
  refine jv_get X dJ2_grow_1 ha (T := TJ2) (N := 3) (C := RJ2) rfl in_J2 1 (by decide) q164 rfl rfl ?_
  refine jv_alenK (v := nI 0) X dJ2_grow_4 (hG.f X).ded rfl ?_
  refine jv_istore_n (lv' := [(2, .int (nI 0)), (0, .ref a), (1, .int (nI mn))]) X dJ2_grow_5 rfl (by decide) rfl ?_
  refine jv_iload_n X dJ2_grow_6 0 rfl ?_
  refine jn_if_gt 20 X dJ2_grow_7 (by decide) (by decide) (fun c7 => ?_) (fun c7 => ?_)
  · skip
    exact (absurd c7 (Nat.lt_irrefl _))
  · skip
    refine jv_aload_n X dJ2_grow_10 1 rfl ?_
    refine jv_get X dJ2_grow_11 ha (T := TJ2) (N := 3) (C := RJ2) rfl in_J2 1 (by decide) q164 rfl rfl ?_
    refine jv_gets (v := .ref (σ.2.2 2)) X dJ2_grow_14 (hG.f X).de q438 ?_
    refine jv_acmp_eq 45 X dJ2_grow_17 (by decide) (fun _ => ?_) (fun h_ => absurd rfl h_)
    refine jv_aload_n X dJ2_grow_45 1 rfl ?_
    refine jv_bipush (v := nI 10) X dJ2_grow_46 rfl ?_
    refine jv_iload_n X dJ2_grow_48 2 rfl ?_
    refine jv_mmax (w := nI 10) X dJ2_grow_49 q450 q444 q104 q445 (Nat.le_of_ble_eq_true rfl) (Nat.le_of_ble_eq_true rfl) (Nat.le_of_ble_eq_true rfl) (Nat.le_of_ble_eq_true rfl) ((mx_n (by omega) (by omega)).trans (congrArg nI (if_pos hm))) ?_
    refine jv_newq (N := 10) (k1 := 1) (n1 := 10) X dJ2_grow_52 q160 (hG.f X).2.2.2.2.1 (by decide) rfl (by decide) rfl rfl (Nat.le_of_ble_eq_true rfl) (Nat.le_of_ble_eq_true rfl) (fun q_2 hnq_2 hbq_2 => ?_)
    refine jv_dup_x1 X dJ2_grow_55 rfl rfl ?_
    refine jv_put (fs' := [.int mc, .ref q_2, .int (nI n)]) X dJ2_grow_56 ((jag.new jag.rf hnq_2).c ha) hfa (T := TJ2) (N := 3) (C := RJ2) rfl in_J2 tyJ2 tyJ2_ok nmJ2 1 (by decide) q164 rfl rfl  rfl rfl rfl (show 1 < 3 from by decide) rfl ?_
    exact jv_aret X dJ2_grow_59 (by first | exact Or.inl ⟨_, rfl⟩ | exact Or.inr ⟨_, rfl⟩) hQ (Nat.le_of_ble_eq_true rfl) (Nat.le_of_ble_eq_true rfl) ⟨hnq_2, hbq_2, rfl⟩
set_option maxHeartbeats 4000000 in
theorem c_J2_grow_1 {l : Launch} {G : jv_G} {M : jv_M} {σ : jk_A} (hG : jk_G G σ) {a : Nat} {mc : Int32} {n : Nat} {e N : Nat} {f : Nat → Option Nat} (ha : M a = some (.inr (20, [.int mc, .ref e, .int (nI n)]))) (hfa : G.1 ≤ a) (he : M e = some (.inl (G.2.2.1 1, N, .inr (.inr (.inr (.inr f)))))) (hfe : G.1 ≤ e) (hN : N ≤ 40) (hN10 : 10 ≤ N) (hel : ∀ i, i < N → ∀ v, f i = some v → jobj M v) (mn : Nat) (hm : mn = N + 1) : jv_Ct G l yJ2_grow cJ2_grow 4 (some (.array (.object "java/lang/Object"))) 4 1 60 140 [.ref a, .int (nI mn)] M (jv_qr G (fun r M' => M r = none ∧ G.1 ≤ r ∧ M' = jv_up (jv_up M r (.inl (G.2.2.1 1, N + N / 2, .inr (.inr (.inr (.inr (va_cpy f (fun _ => none) 0 0 N))))))) a (.inr (20, [.int mc, .ref r, .int (nI n)])))) := by
  refine jv_Ct.of (lv := [(0, .ref a), (1, .int (nI mn))]) (by decide) (Nat.le_of_ble_eq_true rfl) rfl ?_
  intro x Q_ hl_ hQ X
  subst hl_
  refine jv_aload_n X dJ2_grow_0 0 rfl ?_
  refine jv_get X dJ2_grow_1 ha (T := TJ2) (N := 3) (C := RJ2) rfl in_J2 1 (by decide) q164 rfl rfl ?_
  refine jv_alen (t0 := 1) (v := nI N) X dJ2_grow_4 he rfl rfl ?_
  refine jv_istore_n (lv' := [(2, .int (nI N)), (0, .ref a), (1, .int (nI mn))]) X dJ2_grow_5 rfl (by decide) rfl ?_
  refine jv_iload_n X dJ2_grow_6 0 rfl ?_
  refine jn_if_gt 20 X dJ2_grow_7 (by decide) (by omega) (fun c7 => ?_) (fun c7 => ?_)
  · skip
    refine jv_iload_n X dJ2_grow_20 0 rfl ?_
    refine jv_iload_n X dJ2_grow_21 2 rfl ?_
    refine jv_iload_n X dJ2_grow_22 0 rfl ?_
    refine jv_isub (w := nI (mn - N)) X dJ2_grow_23 (pk_sub (by omega)) ?_
    refine jv_iload_n X dJ2_grow_24 0 rfl ?_
    refine jv_iconst (v := nI 1) X dJ2_grow_25 rfl ?_
    refine jv_ishr (w := nI (N / 2 ^ 1)) X dJ2_grow_26 (ni_shr (by omega) (by omega)) ?_
    refine jv_ask (jv_runS (As := [.int (nI N), .int (nI (mn - N)), .int (nI (N / 2 ^ 1))]) (rest := []) X dJ2_grow_27 (c_J11_newLength N (mn - N) (N / 2 ^ 1) (by omega) (by omega) (by omega) (by omega)) (lw_S q440 q441 q106 q442) hd_J11_newLength (Nat.le_of_ble_eq_true rfl) (Nat.le_of_ble_eq_true rfl) (Nat.le_of_ble_eq_true rfl) (Nat.le_of_ble_eq_true rfl) rfl (Nat.le_of_ble_eq_true rfl)) ?_
    rw [show N + (if N / 2 ^ 1 ≤ mn - N then mn - N else N / 2 ^ 1) = N + N / 2 by rw [if_neg (by omega), Nat.pow_one]]
    refine jv_istore_n (lv' := [(3, .int (nI (N + N / 2))), (2, .int (nI N)), (0, .ref a), (1, .int (nI mn))]) X dJ2_grow_30 rfl (by decide) rfl ?_
    refine jv_aload_n X dJ2_grow_31 2 rfl ?_
    refine jv_aload_n X dJ2_grow_32 2 rfl ?_
    refine jv_get X dJ2_grow_33 ha (T := TJ2) (N := 3) (C := RJ2) rfl in_J2 1 (by decide) q164 rfl rfl ?_
    refine jv_iload_n X dJ2_grow_36 0 rfl ?_
    refine jv_callr (jv_runS (As := [.ref e, .int (nI (N + N / 2))]) (rest := [.ref a]) X dJ2_grow_37 (c_J9_copyOf hG he hfe (by omega) (N + N / 2) (by omega) (fun i hi _ v hv => hel i hi v hv)) (lw_S q399 q400 q103 q401) hd_J9_copyOf (Nat.le_of_ble_eq_true rfl) (Nat.le_of_ble_eq_true rfl) (by omega) (by omega) rfl (Nat.le_of_ble_eq_true rfl)) (fun q_1 M_ h_ => ?_)
    obtain ⟨hnq_1, hbq_1, hm_⟩ := h_
    rw [hm_]
    clear hm_
    rw [show (if N ≤ N + N / 2 then N else N + N / 2) = N from if_pos (by omega)]
    refine jv_dup_x1 X dJ2_grow_40 rfl rfl ?_
    refine jv_put (fs' := [.int mc, .ref q_1, .int (nI n)]) X dJ2_grow_41 ((jag.new jag.rf hnq_1).c ha) hfa (T := TJ2) (N := 3) (C := RJ2) rfl in_J2 tyJ2 tyJ2_ok nmJ2 1 (by decide) q164 rfl rfl  rfl rfl rfl (show 1 < 3 from by decide) rfl ?_
    exact jv_aret X dJ2_grow_44 (by first | exact Or.inl ⟨_, rfl⟩ | exact Or.inr ⟨_, rfl⟩) hQ (Nat.le_of_ble_eq_true rfl) (Nat.le_of_ble_eq_true rfl) ⟨hnq_1, hbq_1, rfl⟩
  · skip
    exact (absurd c7 (by omega))
theorem hd_J2_grow_2 : jv_dd yJ2_grow_2 0 := by unfold jv_dd; decide +kernel
set_option maxHeartbeats 4000000 in
theorem c_J2_grow_2_0 {l : Launch} {G : jv_G} {M : jv_M} {σ : jk_A} (hG : jk_G G σ) {a : Nat} {mc : Int32} (ha : M a = some (.inr (20, [.int mc, .ref (σ.2.2 2), .int (nI 0)]))) (hfa : G.1 ≤ a)   : jv_Ct G l yJ2_grow_2 cJ2_grow_2 1 (some (.array (.object "java/lang/Object"))) 5 1 60 163 [.ref a] M (jv_qr G (fun r M' => M r = none ∧ G.1 ≤ r ∧ M' = jv_up (jv_up M r (.inl (G.2.2.1 1, 10, .inr (.inr (.inr (.inr (fun _ => none))))))) a (.inr (20, [.int mc, .ref r, .int (nI 0)])))) := by
  refine jv_Ct.of (lv := [(0, .ref a)]) (by decide) (Nat.le_of_ble_eq_true rfl) rfl ?_
  intro x Q_ hl_ hQ X
  subst hl_
  refine jv_aload_n X dJ2_grow_2_0 0 rfl ?_
  refine jv_aload_n X dJ2_grow_2_1 0 rfl ?_
  refine jv_get X dJ2_grow_2_2 ha (T := TJ2) (N := 3) (C := RJ2) rfl in_J2 2 (by decide) q167 rfl rfl ?_
  refine jv_iconst (v := nI 1) X dJ2_grow_2_5 rfl ?_
  refine jv_iadd (w := nI (0 + 1)) X dJ2_grow_2_6 (nI_add _ _) ?_
  refine jv_callr (jv_runV (As := [.int (nI (0 + 1))]) (rest := []) X dJ2_grow_2_7 (c_J2_grow_0 hG ha hfa (0 + 1) (by omega)) (lw_V q434 q436 qs1 q94 q437) hd_J2_grow ha rfl (Nat.le_of_ble_eq_true rfl) (Nat.le_of_ble_eq_true rfl) (by omega) (by omega) rfl (Nat.le_of_ble_eq_true rfl)) (fun q_1 M_ h_ => ?_)
  obtain ⟨hnq_1, hbq_1, hm_⟩ := h_
  rw [hm_]
  clear hm_
  exact jv_aret X dJ2_grow_2_10 (by first | exact Or.inl ⟨_, rfl⟩ | exact Or.inr ⟨_, rfl⟩) hQ (Nat.le_of_ble_eq_true rfl) (Nat.le_of_ble_eq_true rfl) ⟨hnq_1, hbq_1, rfl⟩
set_option maxHeartbeats 4000000 in
theorem c_J2_grow_2_1 {l : Launch} {G : jv_G} {M : jv_M} {σ : jk_A} (hG : jk_G G σ) {a : Nat} {mc : Int32} {e N : Nat} {f : Nat → Option Nat} (ha : M a = some (.inr (20, [.int mc, .ref e, .int (nI N)]))) (hfa : G.1 ≤ a) (he : M e = some (.inl (G.2.2.1 1, N, .inr (.inr (.inr (.inr f)))))) (hfe : G.1 ≤ e) (hN : N ≤ 40) (hN10 : 10 ≤ N) (hel : ∀ i, i < N → ∀ v, f i = some v → jobj M v)   : jv_Ct G l yJ2_grow_2 cJ2_grow_2 1 (some (.array (.object "java/lang/Object"))) 5 1 60 163 [.ref a] M (jv_qr G (fun r M' => M r = none ∧ G.1 ≤ r ∧ M' = jv_up (jv_up M r (.inl (G.2.2.1 1, N + N / 2, .inr (.inr (.inr (.inr (va_cpy f (fun _ => none) 0 0 N))))))) a (.inr (20, [.int mc, .ref r, .int (nI N)])))) := by
  refine jv_Ct.of (lv := [(0, .ref a)]) (by decide) (Nat.le_of_ble_eq_true rfl) rfl ?_
  intro x Q_ hl_ hQ X
  subst hl_
  refine jv_aload_n X dJ2_grow_2_0 0 rfl ?_
  refine jv_aload_n X dJ2_grow_2_1 0 rfl ?_
  refine jv_get X dJ2_grow_2_2 ha (T := TJ2) (N := 3) (C := RJ2) rfl in_J2 2 (by decide) q167 rfl rfl ?_
  refine jv_iconst (v := nI 1) X dJ2_grow_2_5 rfl ?_
  refine jv_iadd (w := nI (N + 1)) X dJ2_grow_2_6 (nI_add _ _) ?_
  refine jv_callr (jv_runV (As := [.int (nI (N + 1))]) (rest := []) X dJ2_grow_2_7 (c_J2_grow_1 hG ha hfa he hfe (by omega) (by omega) hel (N + 1) (by omega)) (lw_V q434 q436 qs1 q94 q437) hd_J2_grow ha rfl (Nat.le_of_ble_eq_true rfl) (Nat.le_of_ble_eq_true rfl) (by omega) (by omega) rfl (Nat.le_of_ble_eq_true rfl)) (fun q_1 M_ h_ => ?_)
  obtain ⟨hnq_1, hbq_1, hm_⟩ := h_
  rw [hm_]
  clear hm_
  exact jv_aret X dJ2_grow_2_10 (by first | exact Or.inl ⟨_, rfl⟩ | exact Or.inr ⟨_, rfl⟩) hQ (Nat.le_of_ble_eq_true rfl) (Nat.le_of_ble_eq_true rfl) ⟨hnq_1, hbq_1, rfl⟩
set_option maxHeartbeats 4000000 in
theorem c_J2_add_2_0 {l : Launch} {G : jv_G} {M : jv_M} {σ : jk_A} (hG : jk_G G σ) {a : Nat} {mc : Int32} (ha : M a = some (.inr (20, [.int mc, .ref (σ.2.2 2), .int (nI 0)]))) (hfa : G.1 ≤ a) {v ci : Nat} {vs : List Value} {r : vw_C} (hv : M v = some (.inr (ci, vs))) (hfv : G.1 ≤ v) (hc : jv_cl[ci]? = some r) (hcast : Cond.castable r.1 "java/lang/Object" ∈ lw_tbl) (hva : v ≠ a)   : jv_Ct G l yJ2_add_2 cJ2_add_2 4 (none) 6 1 60 220 [.ref a, .ref v, .ref (σ.2.2 2), .int (nI 0)] M (jv_qv G (fun M' => ∃ q, M q = none ∧ G.1 ≤ q ∧ M' = jv_up (jv_up M q (.inl (G.2.2.1 1, 10, .inr (.inr (.inr (.inr (va_up (fun _ => none) 0 (some v)))))))) a (.inr (20, [.int mc, .ref q, .int (nI 1)])))) := by
  refine jv_Ct.of (lv := [(0, .ref a), (1, .ref v), (2, .ref (σ.2.2 2)), (3, .int (nI 0))]) (by decide) (Nat.le_of_ble_eq_true rfl) rfl ?_
  intro x Q_ hl_ hQ X
  subst hl_
  refine jv_iload_n X dJ2_add_2_0 3 rfl ?_
  refine jv_aload_n X dJ2_add_2_1 2 rfl ?_
  refine jv_alenK (v := nI 0) X dJ2_add_2_2 (hG.f X).ded rfl ?_
  refine jn_icmp_ne 11 X dJ2_add_2_3 (by decide) (by decide) (by decide) (fun c3 => ?_) (fun c3 => ?_)
  · skip
    exact (absurd rfl c3)
  · skip
    refine jv_aload_n X dJ2_add_2_6 0 rfl ?_
    refine jv_callr (jv_runV (As := []) (rest := []) X dJ2_add_2_7 (c_J2_grow_2_0 hG ha hfa) (lw_V q460 q462 qs3 q94 q463) hd_J2_grow_2 ha rfl (Nat.le_of_ble_eq_true rfl) (Nat.le_of_ble_eq_true rfl) (by omega) (by omega) rfl (Nat.le_of_ble_eq_true rfl)) (fun q_1 M_ h_ => ?_)
    obtain ⟨hnq_1, hbq_1, hm_⟩ := h_
    rw [hm_]
    clear hm_
    refine jv_astore_n (lv' := [(2, .ref q_1), (0, .ref a), (1, .ref v), (3, .int (nI 0))]) X dJ2_add_2_10 rfl (by decide) rfl ?_
    refine jv_aload_n X dJ2_add_2_11 0 rfl ?_
    refine jv_iload_n X dJ2_add_2_12 3 rfl ?_
    refine jv_aload_n X dJ2_add_2_13 2 rfl ?_
    refine jv_astq (g := va_up (fun _ => none) 0 (some v)) X dJ2_add_2_14 ((jv_up_n (Ne.symm (new_ne hnq_1 ha))).trans jv_up_s) hbq_1 ((jv_up_n hva).trans ((jv_up_n (fun z => by rw [z] at hv; rw [hnq_1] at hv; cases hv)).trans hv)) hfv hc hcast (jn_in (by omega) (by omega)) (by rw [nI_clamp (by omega)]) ?_
    refine jv_aload_n X dJ2_add_2_15 1 rfl ?_
    refine jv_iload_n X dJ2_add_2_16 3 rfl ?_
    refine jv_iconst (v := nI 1) X dJ2_add_2_17 rfl ?_
    refine jv_iadd (w := nI (0 + 1)) X dJ2_add_2_18 (nI_add _ _) ?_
    refine jv_put (fs' := [.int mc, .ref q_1, .int (nI (0 + 1))]) X dJ2_add_2_19 ((jv_up_n (new_ne hnq_1 ha)).trans jv_up_s) hfa (T := TJ2) (N := 3) (C := RJ2) rfl in_J2 tyJ2 tyJ2_ok nmJ2 2 (by decide) q167 rfl rfl  rfl rfl rfl (show 2 < 3 from by decide) rfl ?_
    exact jv_vret X dJ2_add_2_22 hQ (Nat.le_of_ble_eq_true rfl) (Nat.le_of_ble_eq_true rfl) ⟨q_1, hnq_1, hbq_1, by rw [jv_up_mid (fun z => by rw [← z] at hnq_1; rw [ha] at hnq_1; cases hnq_1)]; rw [jv_up_up]⟩
set_option maxHeartbeats 4000000 in
theorem c_J2_add_2_1 {l : Launch} {G : jv_G} {M : jv_M} {σ : jk_A} (hG : jk_G G σ) {a : Nat} {mc : Int32} {e N : Nat} {f : Nat → Option Nat} (ha : M a = some (.inr (20, [.int mc, .ref e, .int (nI N)]))) (hfa : G.1 ≤ a) (he : M e = some (.inl (G.2.2.1 1, N, .inr (.inr (.inr (.inr f)))))) (hfe : G.1 ≤ e) (hN : N ≤ 40) (hN10 : 10 ≤ N) (hel : ∀ i, i < N → ∀ v, f i = some v → jobj M v) {v ci : Nat} {vs : List Value} {r : vw_C} (hv : M v = some (.inr (ci, vs))) (hfv : G.1 ≤ v) (hc : jv_cl[ci]? = some r) (hcast : Cond.castable r.1 "java/lang/Object" ∈ lw_tbl) (hva : v ≠ a)   : jv_Ct G l yJ2_add_2 cJ2_add_2 4 (none) 6 1 60 220 [.ref a, .ref v, .ref e, .int (nI N)] M (jv_qv G (fun M' => ∃ q, M q = none ∧ G.1 ≤ q ∧ M' = jv_up (jv_up M q (.inl (G.2.2.1 1, N + N / 2, .inr (.inr (.inr (.inr (va_up (va_cpy f (fun _ => none) 0 0 N) N (some v)))))))) a (.inr (20, [.int mc, .ref q, .int (nI (N + 1))])))) := by
  refine jv_Ct.of (lv := [(0, .ref a), (1, .ref v), (2, .ref e), (3, .int (nI N))]) (by decide) (Nat.le_of_ble_eq_true rfl) rfl ?_
  intro x Q_ hl_ hQ X
  subst hl_
  refine jv_iload_n X dJ2_add_2_0 3 rfl ?_
  refine jv_aload_n X dJ2_add_2_1 2 rfl ?_
  refine jv_alen (t0 := 1) (v := nI N) X dJ2_add_2_2 he rfl rfl ?_
  refine jn_icmp_ne 11 X dJ2_add_2_3 (by decide) (by omega) (by omega) (fun c3 => ?_) (fun c3 => ?_)
  · skip
    exact (absurd rfl c3)
  · skip
    refine jv_aload_n X dJ2_add_2_6 0 rfl ?_
    refine jv_callr (jv_runV (As := []) (rest := []) X dJ2_add_2_7 (c_J2_grow_2_1 hG ha hfa he hfe (by omega) (by omega) hel) (lw_V q460 q462 qs3 q94 q463) hd_J2_grow_2 ha rfl (Nat.le_of_ble_eq_true rfl) (Nat.le_of_ble_eq_true rfl) (by omega) (by omega) rfl (Nat.le_of_ble_eq_true rfl)) (fun q_1 M_ h_ => ?_)
    obtain ⟨hnq_1, hbq_1, hm_⟩ := h_
    rw [hm_]
    clear hm_
    refine jv_astore_n (lv' := [(2, .ref q_1), (0, .ref a), (1, .ref v), (3, .int (nI N))]) X dJ2_add_2_10 rfl (by decide) rfl ?_
    refine jv_aload_n X dJ2_add_2_11 0 rfl ?_
    refine jv_iload_n X dJ2_add_2_12 3 rfl ?_
    refine jv_aload_n X dJ2_add_2_13 2 rfl ?_
    refine jv_astq (g := va_up (va_cpy f (fun _ => none) 0 0 N) N (some v)) X dJ2_add_2_14 ((jv_up_n (Ne.symm (new_ne hnq_1 ha))).trans jv_up_s) hbq_1 ((jv_up_n hva).trans ((jv_up_n (fun z => by rw [z] at hv; rw [hnq_1] at hv; cases hv)).trans hv)) hfv hc hcast (jn_in (by omega) (by omega)) (by rw [nI_clamp (by omega)]) ?_
    refine jv_aload_n X dJ2_add_2_15 1 rfl ?_
    refine jv_iload_n X dJ2_add_2_16 3 rfl ?_
    refine jv_iconst (v := nI 1) X dJ2_add_2_17 rfl ?_
    refine jv_iadd (w := nI (N + 1)) X dJ2_add_2_18 (nI_add _ _) ?_
    refine jv_put (fs' := [.int mc, .ref q_1, .int (nI (N + 1))]) X dJ2_add_2_19 ((jv_up_n (new_ne hnq_1 ha)).trans jv_up_s) hfa (T := TJ2) (N := 3) (C := RJ2) rfl in_J2 tyJ2 tyJ2_ok nmJ2 2 (by decide) q167 rfl rfl  rfl rfl rfl (show 2 < 3 from by decide) rfl ?_
    exact jv_vret X dJ2_add_2_22 hQ (Nat.le_of_ble_eq_true rfl) (Nat.le_of_ble_eq_true rfl) ⟨q_1, hnq_1, hbq_1, by rw [jv_up_mid (fun z => by rw [← z] at hnq_1; rw [ha] at hnq_1; cases hnq_1)]; rw [jv_up_up]⟩
theorem jdm.up {M : jv_M} {a : Nat} {x : va_E} : jdm M (jv_up M a x) := fun b hb => by
  by_cases h : b = a
  · rw [h, jv_up_s]; exact nofun
  · rw [jv_up_n h]; exact hb
theorem jdm.rf {M : jv_M} : jdm M M := fun _ h => h
theorem jdm.tr {M M1 M2 : jv_M} (h : jdm M M1) (h2 : jdm M1 M2) : jdm M M2 := fun b hb => h2 b (h b hb)
theorem jag.dm {M M' : jv_M} (h : jag M M') : jdm M M' := fun b hb => by rw [h b hb]; exact hb
theorem jex3 {M : jv_M} {a q e : Nat} {x y z : va_E} (hq : M q = none ∨ q = e) : jex M (jv_up (jv_up (jv_up M a x) q y) a z) a e := fun b hb h1 h2 => by
  rw [jv_up_n h1, jv_up_n (fun w => hq.elim (fun hq => hb (by rw [w]; exact hq)) (fun hq => h2 (w.trans hq))), jv_up_n h1]
set_option maxHeartbeats 4000000 in
theorem c_J2_addD {l : Launch} {G : jv_G} {M : jv_M} {σ : jk_A} (hG : jk_G G σ) {a e N n : Nat} {mc : Int32} {f : Nat → Option Nat} {v ci : Nat} {vs : List Value} {r : vw_C} (hv : M v = some (.inr (ci, vs))) (hfv : G.1 ≤ v) (hc : jv_cl[ci]? = some r) (hcast : Cond.castable r.1 "java/lang/Object" ∈ lw_tbl) (hva : v ≠ a)  (hd_ : jdl G σ M a n N e f mc) (hn36 : n ≤ 36) (hel : ∀ i, i < n → ∀ v, f i = some v → jobj M v) (hea : ∀ i, i < n → ∀ v, f i = some v → v ≠ a) : jv_Ct G l yJ2_add cJ2_add 2 (some .boolean) 7 1 60 250 [.ref a, .ref v] M (jv_qi G (fun r M' => r = nI 1 ∧ ∃ (N' e' : Nat) (f' : Nat → Option Nat), jdl G σ M' a (n + 1) N' e' f' (mc + nI 1) ∧ (∀ i, i < n → f' i = f i) ∧ f' n = some v ∧ jadd M M' a e e' N ∧ jdm M M')) := by
  refine jv_Ct.of (lv := [(0, .ref a), (1, .ref v)]) (by decide) (Nat.le_of_ble_eq_true rfl) rfl ?_
  intro x Q_ hl_ hQ X
  subst hl_
  obtain ⟨ha, hfa, hnN, hN60, hd⟩ := hd_
  rcases (show (n = 0 ∧ N = 0 ∧ e = σ.2.2 2) ∨ (n < N ∧ 10 ≤ N ∧ M e = some (.inl (G.2.2.1 1, N, .inr (.inr (.inr (.inr f))))) ∧ G.1 ≤ e) ∨ (n = N ∧ 10 ≤ N ∧ M e = some (.inl (G.2.2.1 1, N, .inr (.inr (.inr (.inr f))))) ∧ G.1 ≤ e) by rcases hd with h | h; exact Or.inl h; rcases Nat.lt_or_ge n N with g | g; exact Or.inr (Or.inl ⟨g, h⟩); exact Or.inr (Or.inr ⟨by omega, h⟩)) with ⟨rfl, rfl, rfl⟩ | ⟨hlt, hN10, he, hfe⟩ | ⟨rfl, hN10, he, hfe⟩
  · skip
    refine jv_aload_n X dJ2_add_0 0 rfl ?_
    refine jv_dup X dJ2_add_1 rfl ?_
    refine jv_getS X dJ2_add_2 ha (T := TJ2) (N := 3) (C := RJ2) rfl in_J2 0 (by decide) q171 q170 rfl ?_
    refine jv_iconst (v := nI 1) X dJ2_add_5 rfl ?_
    refine jv_iadd (w := mc + (nI 1)) X dJ2_add_6 rfl ?_
    refine jv_putS (fs' := [.int (mc + (nI 1)), .ref (σ.2.2 2), .int (nI 0)]) X dJ2_add_7 ha hfa (T := TJ2) (N := 3) (C := RJ2) rfl in_J2 tyJ2 tyJ2_ok nmJ2 0 (by decide) q171 q170 rfl  rfl rfl rfl (show 0 < 3 from by decide) rfl ?_
    refine jv_aload_n X dJ2_add_10 0 rfl ?_
    refine jv_aload_n X dJ2_add_11 1 rfl ?_
    refine jv_aload_n X dJ2_add_12 0 rfl ?_
    refine jv_get X dJ2_add_13 jv_up_s (T := TJ2) (N := 3) (C := RJ2) rfl in_J2 1 (by decide) q164 rfl rfl ?_
    refine jv_aload_n X dJ2_add_16 0 rfl ?_
    refine jv_get X dJ2_add_17 jv_up_s (T := TJ2) (N := 3) (C := RJ2) rfl in_J2 2 (by decide) q167 rfl rfl ?_
    refine jv_callv (jv_runV (As := [.ref v, .ref (σ.2.2 2), .int (nI 0)]) (rest := []) X dJ2_add_20 (c_J2_add_2_0 hG jv_up_s hfa ((jv_up_n hva).trans hv) hfv hc hcast hva) (lw_V q456 q458 qs2 q94 q459) hd_J2_add_2 jv_up_s rfl (Nat.le_of_ble_eq_true rfl) (Nat.le_of_ble_eq_true rfl) (by omega) (by omega) rfl (Nat.le_of_ble_eq_true rfl)) (fun M_ h_ => ?_)
    obtain ⟨q_1, hnq_1, hbq_1, hm_⟩ := h_
    rw [hm_]
    clear hm_
    refine jv_iconst (v := nI 1) X dJ2_add_23 rfl ?_
    exact jv_iret (v := bI true) X dJ2_add_24 (bI_nar _) hQ (Nat.le_of_ble_eq_true rfl) (Nat.le_of_ble_eq_true rfl) ⟨rfl, 10, q_1, _, ⟨jv_up_s, hfa, by omega, by omega, Or.inr ⟨by omega, (jv_up_n (fun z => by have := up_none hnq_1; exact this.2 z.symm)).trans jv_up_s, hbq_1⟩⟩, (fun i hi => absurd hi (Nat.not_lt_zero _)), by simp [va_up], Or.inr ⟨(up_none hnq_1).1, jex3 (Or.inl (up_none hnq_1).1)⟩, (jdm.up.tr jdm.up).tr jdm.up⟩
  · skip
    refine jv_aload_n X dJ2_add_0 0 rfl ?_
    refine jv_dup X dJ2_add_1 rfl ?_
    refine jv_getS X dJ2_add_2 ha (T := TJ2) (N := 3) (C := RJ2) rfl in_J2 0 (by decide) q171 q170 rfl ?_
    refine jv_iconst (v := nI 1) X dJ2_add_5 rfl ?_
    refine jv_iadd (w := mc + (nI 1)) X dJ2_add_6 rfl ?_
    refine jv_putS (fs' := [.int (mc + (nI 1)), .ref e, .int (nI n)]) X dJ2_add_7 ha hfa (T := TJ2) (N := 3) (C := RJ2) rfl in_J2 tyJ2 tyJ2_ok nmJ2 0 (by decide) q171 q170 rfl  rfl rfl rfl (show 0 < 3 from by decide) rfl ?_
    refine jv_aload_n X dJ2_add_10 0 rfl ?_
    refine jv_aload_n X dJ2_add_11 1 rfl ?_
    refine jv_aload_n X dJ2_add_12 0 rfl ?_
    refine jv_get X dJ2_add_13 jv_up_s (T := TJ2) (N := 3) (C := RJ2) rfl in_J2 1 (by decide) q164 rfl rfl ?_
    refine jv_aload_n X dJ2_add_16 0 rfl ?_
    refine jv_get X dJ2_add_17 jv_up_s (T := TJ2) (N := 3) (C := RJ2) rfl in_J2 2 (by decide) q167 rfl rfl ?_
    refine jv_callv (jv_runV (As := [.ref v, .ref e, .int (nI n)]) (rest := []) X dJ2_add_20 (c_J2_add_2 jv_up_s ((jv_up_n (ck_ne he ha rfl)).trans he) ((jv_up_n hva).trans hv) hfv hc hcast hva hfa hfe (by omega) (by omega)) (lw_V q456 q458 qs2 q94 q459) hd_J2_add_2 jv_up_s rfl (Nat.le_of_ble_eq_true rfl) (Nat.le_of_ble_eq_true rfl) (Nat.le_of_ble_eq_true rfl) (Nat.le_of_ble_eq_true rfl) rfl (Nat.le_of_ble_eq_true rfl)) (fun M_ h_ => ?_)
    rw [h_]
    clear h_
    refine jv_iconst (v := nI 1) X dJ2_add_23 rfl ?_
    exact jv_iret (v := bI true) X dJ2_add_24 (bI_nar _) hQ (Nat.le_of_ble_eq_true rfl) (Nat.le_of_ble_eq_true rfl) ⟨rfl, N, e, _, ⟨jv_up_s, hfa, by omega, hN60, Or.inr ⟨hN10, (jv_up_n (ck_ne he ha rfl)).trans jv_up_s, hfe⟩⟩, (fun i hi => by simp only [va_up]; rw [if_neg (by omega)]), by simp [va_up], Or.inl ⟨rfl, hN10, jex3 (Or.inr rfl)⟩, (jdm.up.tr jdm.up).tr jdm.up⟩
  · skip
    refine jv_aload_n X dJ2_add_0 0 rfl ?_
    refine jv_dup X dJ2_add_1 rfl ?_
    refine jv_getS X dJ2_add_2 ha (T := TJ2) (N := 3) (C := RJ2) rfl in_J2 0 (by decide) q171 q170 rfl ?_
    refine jv_iconst (v := nI 1) X dJ2_add_5 rfl ?_
    refine jv_iadd (w := mc + (nI 1)) X dJ2_add_6 rfl ?_
    refine jv_putS (fs' := [.int (mc + (nI 1)), .ref e, .int (nI n)]) X dJ2_add_7 ha hfa (T := TJ2) (N := 3) (C := RJ2) rfl in_J2 tyJ2 tyJ2_ok nmJ2 0 (by decide) q171 q170 rfl  rfl rfl rfl (show 0 < 3 from by decide) rfl ?_
    refine jv_aload_n X dJ2_add_10 0 rfl ?_
    refine jv_aload_n X dJ2_add_11 1 rfl ?_
    refine jv_aload_n X dJ2_add_12 0 rfl ?_
    refine jv_get X dJ2_add_13 jv_up_s (T := TJ2) (N := 3) (C := RJ2) rfl in_J2 1 (by decide) q164 rfl rfl ?_
    refine jv_aload_n X dJ2_add_16 0 rfl ?_
    refine jv_get X dJ2_add_17 jv_up_s (T := TJ2) (N := 3) (C := RJ2) rfl in_J2 2 (by decide) q167 rfl rfl ?_
    refine jv_callv (jv_runV (As := [.ref v, .ref e, .int (nI n)]) (rest := []) X dJ2_add_20 (c_J2_add_2_1 hG jv_up_s hfa ((jv_up_n (ck_ne he ha rfl)).trans he) hfe (by omega) (by omega) (fun i hi v hv => by
        obtain ⟨c1, c2, c3, c4, c5, c6⟩ := hel i hi v hv
        exact ⟨c1, c2, c3, (jv_up_n (hea i hi v hv)).trans c4, c5, c6⟩) ((jv_up_n hva).trans hv) hfv hc hcast hva) (lw_V q456 q458 qs2 q94 q459) hd_J2_add_2 jv_up_s rfl (Nat.le_of_ble_eq_true rfl) (Nat.le_of_ble_eq_true rfl) (by omega) (by omega) rfl (Nat.le_of_ble_eq_true rfl)) (fun M_ h_ => ?_)
    obtain ⟨q_2, hnq_2, hbq_2, hm_⟩ := h_
    rw [hm_]
    clear hm_
    refine jv_iconst (v := nI 1) X dJ2_add_23 rfl ?_
    exact jv_iret (v := bI true) X dJ2_add_24 (bI_nar _) hQ (Nat.le_of_ble_eq_true rfl) (Nat.le_of_ble_eq_true rfl) ⟨rfl, (n + n / 2), q_2, _, ⟨jv_up_s, hfa, by omega, by omega, Or.inr ⟨by omega, (jv_up_n (fun z => by have := up_none hnq_2; exact this.2 z.symm)).trans jv_up_s, hbq_2⟩⟩, (fun i hi => by simp only [va_up, va_cpy]; rw [if_neg (by omega), if_pos ⟨by omega, by omega⟩]; rw [Nat.zero_add, Nat.sub_zero]), by simp [va_up], Or.inr ⟨(up_none hnq_2).1, jex3 (Or.inl (up_none hnq_2).1)⟩, (jdm.up.tr jdm.up).tr jdm.up⟩
theorem hd_J2_toArray : jv_dd yJ2_toArray 0 := by unfold jv_dd; decide +kernel
set_option maxHeartbeats 4000000 in
theorem c_J2_toArray {l : Launch} {G : jv_G} {M : jv_M} {σ : jk_A} (hG : jk_G G σ) {a e N n : Nat} {mc : Int32} {f : Nat → Option Nat} (ha : M a = some (.inr (20, [.int mc, .ref e, .int (nI n)]))) (he : M e = some (.inl (G.2.2.1 1, N, .inr (.inr (.inr (.inr f)))))) (hfe : G.1 ≤ e) (hnN : n ≤ N) (hN : N ≤ 60) (hel : ∀ i, i < n → ∀ v, f i = some v → jobj M v)   : jv_Ct G l yJ2_toArray cJ2_toArray 1 (some (.array (.object "java/lang/Object"))) 3 1 60 74 [.ref a] M (jv_qr G (fun r M' => M r = none ∧ G.1 ≤ r ∧ M' = jv_up M r (.inl (G.2.2.1 1, n, .inr (.inr (.inr (.inr (va_cpy f (fun _ => none) 0 0 n)))))))) := by
  refine jv_Ct.of (lv := [(0, .ref a)]) (by decide) (Nat.le_of_ble_eq_true rfl) rfl ?_
  intro x Q_ hl_ hQ X
  subst hl_
  refine jv_aload_n X dJ2_toArray_0 0 rfl ?_
  refine jv_get X dJ2_toArray_1 ha (T := TJ2) (N := 3) (C := RJ2) rfl in_J2 1 (by decide) q164 rfl rfl ?_
  refine jv_aload_n X dJ2_toArray_4 0 rfl ?_
  refine jv_get X dJ2_toArray_5 ha (T := TJ2) (N := 3) (C := RJ2) rfl in_J2 2 (by decide) q167 rfl rfl ?_
  refine jv_callr (jv_runS (As := [.ref e, .int (nI n)]) (rest := []) X dJ2_toArray_8 (c_J9_copyOf hG he hfe (by omega) n (by omega) (fun i _ hi v hv => hel i hi v hv)) (lw_S q399 q400 q103 q401) hd_J9_copyOf (Nat.le_of_ble_eq_true rfl) (Nat.le_of_ble_eq_true rfl) (by omega) (by omega) rfl (Nat.le_of_ble_eq_true rfl)) (fun q_1 M_ h_ => ?_)
  obtain ⟨hnq_1, hbq_1, hm_⟩ := h_
  rw [hm_]
  clear hm_
  rw [show (if N ≤ n then N else n) = n by split <;> omega]
  exact jv_aret X dJ2_toArray_11 (by first | exact Or.inl ⟨_, rfl⟩ | exact Or.inr ⟨_, rfl⟩) hQ (Nat.le_of_ble_eq_true rfl) (Nat.le_of_ble_eq_true rfl) ⟨hnq_1, hbq_1, rfl⟩
theorem hd_J2_addAll : jv_dd yJ2_addAll 1 := by unfold jv_dd; decide +kernel
set_option maxHeartbeats 4000000 in
theorem c_J2_addAll {l : Launch} {G : jv_G} {M : jv_M} {σ : jk_A} (hG : jk_G G σ) {a e N n b h K : Nat} {mc md : Int32} {f g : Nat → Option Nat} (ha : M a = some (.inr (20, [.int mc, .ref e, .int (nI n)]))) (he : M e = some (.inl (G.2.2.1 1, N, .inr (.inr (.inr (.inr f)))))) (hfe : G.1 ≤ e) (hnN : n ≤ N) (hN : N ≤ 60) (hel : ∀ i, i < n → ∀ v, f i = some v → jobj M v) (hb : M b = some (.inr (20, [.int md, .ref h, .int (nI 0)]))) (hfb : G.1 ≤ b) (hh : M h = some (.inl (G.2.2.1 1, K, .inr (.inr (.inr (.inr g)))))) (hfh : G.1 ≤ h) (hK : K ≤ 60) (hnK : n ≤ K) (hab : a ≠ b) (heh : e ≠ h) (hve : ∀ i, i < n → ∀ v, f i = some v → v ≠ b)   : jv_Ct G l yJ2_addAll cJ2_addAll 6 (some .boolean) 4 1 60 94 [.ref b, .ref a] M (jv_qi G (fun r M' => (∃ b : Bool, r = bI b) ∧ ∃ g' : Nat → Option Nat, M' b = some (.inr (20, [.int (md + nI 1), .ref h, .int (nI n)])) ∧ M' h = some (.inl (G.2.2.1 1, K, .inr (.inr (.inr (.inr g'))))) ∧ (∀ i, i < n → g' i = f i) ∧ jex M M' b h ∧ jdm M M')) := by
  refine jv_Ct.of (lv := [(0, .ref b), (1, .ref a)]) (by decide) (Nat.le_of_ble_eq_true rfl) rfl ?_
  intro x Q_ hl_ hQ X
  subst hl_
  refine jv_aload_n X dJ2_addAll_0 1 rfl ?_
  refine jv_callFr (jv_runF (xm := jx_toArray) (As := []) (rest := []) X dJ2_addAll_1 (hG.f X).2.2.2.2.2.2.2.2.2 (c_J2_toArray hG ha he hfe (by omega) (by omega) (fun i hi v hv => hel i hi v hv)) (lw_F q367 q394 q396 q94 q398) hd_jx_toArray ha rfl (Nat.le_of_ble_eq_true rfl) (Nat.le_of_ble_eq_true rfl) (Nat.le_of_ble_eq_true rfl) (Nat.le_of_ble_eq_true rfl) rfl (Nat.le_of_ble_eq_true rfl)) (fun q_1 M_ h_ => ?_)
  obtain ⟨hnq_1, hbq_1, hm_⟩ := h_
  rw [hm_]
  clear hm_
  refine jv_astore_n (lv' := [(2, .ref q_1), (0, .ref b), (1, .ref a)]) X dJ2_addAll_6 rfl (by decide) rfl ?_
  refine jv_aload_n X dJ2_addAll_7 1 rfl ?_
  refine jv_dup X dJ2_addAll_8 rfl ?_
  refine jv_getS X dJ2_addAll_9 ((jv_up_n (new_ne hnq_1 hb)).trans hb) (T := TJ2) (N := 3) (C := RJ2) rfl in_J2 0 (by decide) q171 q170 rfl ?_
  refine jv_iconst (v := nI 1) X dJ2_addAll_12 rfl ?_
  refine jv_iadd (w := md + (nI 1)) X dJ2_addAll_13 rfl ?_
  refine jv_putS (fs' := [.int (md + (nI 1)), .ref h, .int (nI 0)]) X dJ2_addAll_14 ((jv_up_n (new_ne hnq_1 hb)).trans hb) hfb (T := TJ2) (N := 3) (C := RJ2) rfl in_J2 tyJ2 tyJ2_ok nmJ2 0 (by decide) q171 q170 rfl  rfl rfl rfl (show 0 < 3 from by decide) rfl ?_
  refine jv_aload_n X dJ2_addAll_17 0 rfl ?_
  refine jv_alen (t0 := 1) (v := nI n) X dJ2_addAll_18 ((jv_up_n (Ne.symm (new_ne hnq_1 hb))).trans jv_up_s) rfl rfl ?_
  refine jv_istore_n (lv' := [(3, .int (nI n)), (2, .ref q_1), (0, .ref b), (1, .ref a)]) X dJ2_addAll_19 rfl (by decide) rfl ?_
  refine jv_iload_n X dJ2_addAll_20 0 rfl ?_
  refine jn_if_ne 26 X dJ2_addAll_21 (by decide) (by omega) (fun c21 => ?_) (fun c21 => ?_)
  · skip
    refine jv_iload_n X dJ2_addAll_26 0 rfl ?_
    refine jv_aload_n X dJ2_addAll_27 2 rfl ?_
    refine jv_get X dJ2_addAll_28 jv_up_s (T := TJ2) (N := 3) (C := RJ2) rfl in_J2 1 (by decide) q164 rfl rfl ?_
    refine jv_dup X dJ2_addAll_31 rfl ?_
    refine jv_astore (lv' := [(4, .ref h), (3, .int (nI n)), (2, .ref q_1), (0, .ref b), (1, .ref a)]) X dJ2_addAll_32 (by decide) rfl ?_
    refine jv_alen (t0 := 1) (v := nI K) X dJ2_addAll_34 ((jv_up_n (ck_ne hh hb rfl)).trans ((jv_up_n (new_ne hnq_1 hh)).trans hh)) rfl rfl ?_
    refine jv_aload_n X dJ2_addAll_35 3 rfl ?_
    refine jv_get X dJ2_addAll_36 jv_up_s (T := TJ2) (N := 3) (C := RJ2) rfl in_J2 2 (by decide) q167 rfl rfl ?_
    refine jv_dup X dJ2_addAll_39 rfl ?_
    refine jv_istore (lv' := [(5, .int (nI 0)), (4, .ref h), (3, .int (nI n)), (2, .ref q_1), (0, .ref b), (1, .ref a)]) X dJ2_addAll_40 (by decide) rfl ?_
    refine jv_isub (w := nI (K - 0)) X dJ2_addAll_42 (pk_sub (by omega)) ?_
    refine jn_icmp_le 56 X dJ2_addAll_43 (by decide) (by omega) (by omega) (fun c43 => ?_) (fun c43 => ?_)
    · skip
      refine jv_aload_n X dJ2_addAll_56 3 rfl ?_
      refine jv_iconst (v := nI 0) X dJ2_addAll_57 rfl ?_
      refine jv_aload X dJ2_addAll_58 1 rfl ?_
      refine jv_iload X dJ2_addAll_60 0 rfl ?_
      refine jv_iload_n X dJ2_addAll_62 2 rfl ?_
      refine jv_copyq (h := va_cpy (va_cpy f (fun _ => none) 0 0 n) g 0 0 n) X dJ2_addAll_63 q451 q391 q390 q105 ((jv_up_n (Ne.symm (new_ne hnq_1 hb))).trans jv_up_s) ((jv_up_n (ck_ne hh hb rfl)).trans ((jv_up_n (new_ne hnq_1 hh)).trans hh)) hbq_1 hfh (by (repeat' split) <;> omega) (by (repeat' split) <;> omega) (by omega) (by omega) (fun i hi v hv => by
          rw [Nat.zero_add] at hv
          simp only [va_cpy] at hv
          rw [if_pos ⟨by omega, by omega⟩, Nat.zero_add, Nat.sub_zero] at hv
          obtain ⟨c1, c2, c3, c4, c5, c6⟩ := hel i hi v hv
          exact ⟨c1, c2, c3, (jv_up_n (hve i hi v hv)).trans ((jv_up_n (new_ne hnq_1 c4)).trans c4), c5, c6⟩) (Nat.le_of_ble_eq_true rfl) (Nat.le_of_ble_eq_true rfl) rfl ?_
      refine jv_aload_n X dJ2_addAll_66 4 rfl ?_
      refine jv_iload X dJ2_addAll_67 0 rfl ?_
      refine jv_iload_n X dJ2_addAll_69 2 rfl ?_
      refine jv_iadd (w := nI n) X dJ2_addAll_70 ((nI_add _ _).trans (by rw [Nat.zero_add])) ?_
      refine jv_put (fs' := [.int (md + (nI 1)), .ref h, .int (nI n)]) X dJ2_addAll_71 ((jv_up_n (ck_ne hb hh rfl)).trans jv_up_s) hfb (T := TJ2) (N := 3) (C := RJ2) rfl in_J2 tyJ2 tyJ2_ok nmJ2 2 (by decide) q167 rfl rfl  rfl rfl rfl (show 2 < 3 from by decide) rfl ?_
      refine jv_iconst (v := nI 1) X dJ2_addAll_74 rfl ?_
      exact jv_iret (v := bI true) X dJ2_addAll_75 (bI_nar _) hQ (Nat.le_of_ble_eq_true rfl) (Nat.le_of_ble_eq_true rfl) ⟨⟨true, rfl⟩, _, jv_up_s, ((jv_up_n (ck_ne hh hb rfl)).trans jv_up_s), (fun i hi => by simp only [va_cpy]; rw [if_pos ⟨by omega, by omega⟩, if_pos ⟨by omega, by omega⟩, Nat.zero_add, Nat.sub_zero, Nat.zero_add, Nat.sub_zero]), (fun z hz h1 h2 => by rw [jv_up_n h1, jv_up_n h2, jv_up_n h1, jv_up_n (fun w => hz (by rw [w]; exact hnq_1))]), ((jdm.up.tr jdm.up).tr jdm.up).tr jdm.up⟩
    · skip
      exact (absurd c43 (by omega))
  · skip
    refine jv_iconst (v := nI 0) X dJ2_addAll_24 rfl ?_
    exact jv_iret (v := bI false) X dJ2_addAll_25 (bI_nar _) hQ (Nat.le_of_ble_eq_true rfl) (Nat.le_of_ble_eq_true rfl) ⟨⟨false, rfl⟩, g, (by rw [c21]; exact jv_up_s), ((jv_up_n (ck_ne hh hb rfl)).trans ((jv_up_n (new_ne hnq_1 hh)).trans hh)), fun i hi => absurd hi (by omega), (fun z hz h1 h2 => by rw [jv_up_n h1, jv_up_n (fun w => hz (by rw [w]; exact hnq_1))]), jdm.up.tr jdm.up⟩
