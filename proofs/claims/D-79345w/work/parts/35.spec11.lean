/-! the whole text, item by item -/
set_option maxRecDepth 100000
theorem amo_0 {c : Int32} (h : (if amo c = 0 then false else true) = true) : ¬ amo c = 0 := by
  intro z
  rw [if_pos z] at h
  cases h
theorem tgK_t {T : Nat → Nat} {e : Nat} {R : t_R} (h : (tgK T e R).1 = true) : (tgK T e R).2 = R.2 + 1 := by
  have h : (if amo (herP T e R.2) = 0 then false else true) = true := h
  show R.2 + _ = R.2 + 1
  rw [if_pos h]
theorem tg5_t {T : Nat → Nat} {e : Nat} {R : t_R} (h : (tg5 T e R).1 = true) : (tg5 T e R).2 = R.2 + 4 := by
  unfold tg5 at h ⊢
  have h3 := mstR_t (by decide) h
  have h2 := mstR_t (by decide) h3.1
  have h1 := mstR_t (by decide) h2.1
  have h0 := tgK_t h1.1
  omega
theorem tgt_t {T : Nat → Nat} {e : Nat} {R : t_R} (h : (tgt T e R).1.1 = true) : R.1 = true ∧ R.2 + 2 ≤ (tgt T e R).1.2 := by
  unfold tgt at h ⊢
  by_cases a : (mstR T e 97 102 R).1 = true
  · have h1 := mstR_t (by decide) a
    rw [if_pos a] at h ⊢
    by_cases b : herP T e (mstR T e 97 102 R).2 = nI 42
    · rw [if_pos b]
      exact ⟨h1.1, by show _ ≤ (mstR T e 97 102 R).2 + 1; omega⟩
    · rw [if_neg b] at h ⊢
      by_cases c : (tg5 T e (mstR T e 97 102 R)).1 = true
      · have h5 := tg5_t c
        rw [if_pos c] at h ⊢
        by_cases d : herP T e (tg5 T e (mstR T e 97 102 R)).2 = nI 45
        · rw [if_pos d] at h ⊢
          have h6 := mstR_t (by decide) h
          exact ⟨h1.1, by show _ ≤ (mstR T e 48 57 ((tg5 T e (mstR T e 97 102 R)).1, (tg5 T e (mstR T e 97 102 R)).2 + 1)).2; have := h6.2.2; simp only at this; omega⟩
        · rw [if_neg d]
          exact ⟨h1.1, by show _ ≤ (tg5 T e (mstR T e 97 102 R)).2; omega⟩
      · rw [if_neg c] at h
        exact absurd h c
  · rw [if_neg a] at h
    exact absurd h a
theorem it3_t {T : Nat → Nat} {e : Nat} {R : t_R} (h : (it3 T e R).1 = true) : R.2 + 1 ≤ (it3 T e R).2 := by
  unfold it3 at h ⊢
  by_cases a : herP T e R.2 = nI 62
  · rw [if_pos a] at h ⊢
    have h : R.1 = true := h
    show _ ≤ R.2 + _
    rw [if_pos h]; omega
  · rw [if_neg a] at h ⊢
    have h : itB T e R = true := h
    show _ ≤ (itA T e R).2 + _
    have : R.2 ≤ (itA T e R).2 := Nat.le_trans (mstR_ge (by decide)) (mstR_ge (by decide))
    rw [if_pos h]; omega
theorem itE_3 {T : Nat → Nat} {e : Nat} {R : t_R} (h : (itE T e R).1 = true) : (it3 T e R).1 = true := by
  unfold itE at h
  by_cases a : (it3 T e R).1 = true
  · exact a
  · rw [if_neg a] at h; exact h
theorem itE_t {T : Nat → Nat} {e : Nat} {R : t_R} (h : (itE T e R).1 = true) : R.2 + 3 ≤ (itE T e R).2 := by
  have a := itE_3 h
  have h1 := it3_t a
  unfold itE at h ⊢
  rw [if_pos a] at h ⊢
  have := (tgt_t h).2
  omega
def itS (T : Nat → Nat) (e : Nat) : Nat → Nat
  | 0 => 0
  | i + 1 => (itE T e (true, itS T e i)).2 + 1
def rdL (T : Nat → Nat) (e : Nat) : Nat → t_R → Nat → t_R × Nat
  | 0, R, m => (R, m)
  | f + 1, R, m => if R.1 = true then (if herP T e R.2 = nI 59 then rdL T e f (itE T e (R.1, R.2 + 1)) (m + 1) else (R, m)) else (R, m)
theorem rdL_x {T : Nat → Nat} {e : Nat} {R : t_R} {m : Nat} (h : ¬ (R.1 = true ∧ herP T e R.2 = nI 59)) : ∀ f, rdL T e f R m = (R, m)
  | 0 => rfl
  | f + 1 => by
    unfold rdL
    by_cases a : R.1 = true
    · rw [if_pos a, if_neg (fun b => h ⟨a, b⟩)]
    · rw [if_neg a]
theorem rdL_s {T : Nat → Nat} {e f : Nat} {R : t_R} {m : Nat} (h : 0 < f) (a : R.1 = true) (b : herP T e R.2 = nI 59) : rdL T e f R m = rdL T e (f - 1) (itE T e (R.1, R.2 + 1)) (m + 1) := by
  obtain ⟨f, rfl⟩ : ∃ g, f = g + 1 := ⟨f - 1, by omega⟩
  rw [rdL, if_pos a, if_pos b]
  rfl
def rd (T : Nat → Nat) (e : Nat) : t_R × Nat := rdL T e 60 (itE T e (true, 0)) 1
def rdO (T : Nat → Nat) (e : Nat) : Bool := if (rd T e).1.1 = true then (if (rd T e).1.2 = e then true else false) else false
/-- an item's numbers -/
def itG (T : Nat → Nat) (e : Nat) (B : Nat → Int32) (i : Nat) : Prop := B (5 * i + 0) = nI (itK T e (true, itS T e i)) ∧ (¬ itK T e (true, itS T e i) = 0 → B (5 * i + 1) = mvl T e 97 (true, itS T e i) ∧ B (5 * i + 2) = mvl T e 48 (mstR T e 97 102 (true, itS T e i))) ∧
  B (5 * i + 3) = (tgt T e (it3 T e (true, itS T e i))).2.1 ∧ B (5 * i + 4) = (tgt T e (it3 T e (true, itS T e i))).2.2
theorem itG_lo {T : Nat → Nat} {e : Nat} {B B' : Nat → Int32} {i m : Nat} (h : itG T e B i) (hi : i < m) (hl : ∀ j, j < 5 * m → B' j = B j) : itG T e B' i := by
  unfold itG
  rw [hl _ (by omega), hl _ (by omega), hl _ (by omega), hl _ (by omega), hl _ (by omega)]
  exact h
theorem itG_n {T : Nat → Nat} {e m : Nat} {B : Nat → Int32} {R : t_R} (hR : R = (true, itS T e m)) (ho : (itE T e R).1 = true) (h0 : B (5 * m + 0) = nI (itK T e R)) (h1 : ¬ itK T e R = 0 → B (5 * m + 1) = mvl T e 97 R ∧ B (5 * m + 2) = mvl T e 48 (mstR T e 97 102 R)) (h3 : (it3 T e R).1 = true → B (5 * m + 3) = (tgt T e (it3 T e R)).2.1 ∧ B (5 * m + 4) = (tgt T e (it3 T e R)).2.2) : itG T e B m := by
  subst hR
  exact ⟨h0, h1, h3 (itE_3 ho)⟩
