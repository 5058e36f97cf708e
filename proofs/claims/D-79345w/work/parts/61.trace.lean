/-! traces of the component: what a Trace's cells hold -/
set_option maxRecDepth 100000
/-- a rule of two packages: they differ -/
def wfP (S : Nat → Nat) : Prop := ∀ r, r < S 1 → v_inN (v_ofRule S r 0) 1 2 = true → v_ofRule S r 1 ≠ v_ofRule S r 3
abbrev wfX (S : Nat → Nat) : Prop := wfS S ∧ wfL S ∧ wfP S
def cfI (c : Nat) : Int32 := if c = 6 then -5 else nI c
theorem cfI_neg {c : Nat} (h : c ≤ 6) : cfI c < 0 ↔ c = 6 := by
  rcases (by omega : c = 0 ∨ c = 1 ∨ c = 2 ∨ c = 3 ∨ c = 4 ∨ c = 5 ∨ c = 6) with rfl | rfl | rfl | rfl | rfl | rfl | rfl <;> decide
theorem cfI_ge {c : Nat} (h : c ≤ 6) : 0 ≤ cfI c ↔ ¬ c = 6 := by
  rcases (by omega : c = 0 ∨ c = 1 ∨ c = 2 ∨ c = 3 ∨ c = 4 ∨ c = 5 ∨ c = 6) with rfl | rfl | rfl | rfl | rfl | rfl | rfl <;> decide
theorem cfI_6 {c : Nat} (h : c ≤ 6) (hn : ¬ 0 ≤ cfI c) : c = 6 := Classical.byContradiction fun z => hn ((cfI_ge h).mpr z)
/-- the earlier steps on which step i rests -/
def rsK (S : Nat → Nat) (T : t_T2) (i : Nat) : Nat → Nat
  | 0 => 0
  | k + 1 => rsK S T i k ||| (if v_rests S T i k = true then 2 ^ k else 0)
def rsN (S : Nat → Nat) (T : t_T2) (i : Nat) : Nat := rsK S T i i
theorem rsK_lt (S : Nat → Nat) (T : t_T2) (i : Nat) : ∀ k, rsK S T i k < 2 ^ k
  | 0 => Nat.one_pos
  | k + 1 => by
    have h := rsK_lt S T i k
    unfold rsK
    refine Nat.or_lt_two_pow (Nat.lt_of_lt_of_le h (Nat.pow_le_pow_right (by decide) (by omega))) ?_
    split
    · exact Nat.pow_lt_pow_right (by decide) (by omega)
    · exact Nat.two_pow_pos _
/-- the steps of some packages -/
def sfN (T : t_T2) (m : Nat) : Nat → Nat
  | 0 => 0
  | k + 1 => sfN T m k ||| (if m / 2 ^ tp T k % 2 = 1 then 2 ^ k else 0)
theorem sfN_lt (T : t_T2) (m : Nat) : ∀ k, sfN T m k < 2 ^ k
  | 0 => Nat.one_pos
  | k + 1 => by
    have h := sfN_lt T m k
    unfold sfN
    refine Nat.or_lt_two_pow (Nat.lt_of_lt_of_le h (Nat.pow_le_pow_right (by decide) (by omega))) ?_
    split
    · exact Nat.pow_lt_pow_right (by decide) (by omega)
    · exact Nat.two_pow_pos _
theorem bit_unv : ∀ m, m < 64 → ∀ t, t < 6 → ∀ q, q < 6 → (m &&& ux (unv (2 ^ t))) / 2 ^ q % 2 = (if q = t then 0 else m / 2 ^ q % 2) := by decide +kernel
theorem bit_pow : ∀ a, a < 6 → ∀ q, q < 6 → 2 ^ a / 2 ^ q % 2 = (if q = a then 1 else 0) := by decide +kernel
theorem bit_pks0 : ∀ a b c d e f : Bool, ∀ q, q < 6 → (((((((0 ||| (if a then 0 else 2 ^ 0)) ||| (if b then 0 else 2 ^ 1)) ||| (if c then 0 else 2 ^ 2)) ||| (if d then 0 else 2 ^ 3)) ||| (if e then 0 else 2 ^ 4)) ||| (if f then 0 else 2 ^ 5))) / 2 ^ q % 2 = (if (if q = 0 then a else if q = 1 then b else if q = 2 then c else if q = 3 then d else if q = 4 then e else f) then 0 else 1) := by decide +kernel
theorem bit_pks (S : Nat → Nat) (r : Nat) {q : Nat} (hq : q < 6) : pks S r / 2 ^ q % 2 = (if lsd S r q = 0 then 0 else 1) := by
  have h := bit_pks0 (decide (lsd S r 0 = 0)) (decide (lsd S r 1 = 0)) (decide (lsd S r 2 = 0)) (decide (lsd S r 3 = 0)) (decide (lsd S r 4 = 0)) (decide (lsd S r 5 = 0)) q hq
  simp only [decide_eq_true_eq] at h
  refine h.trans ?_
  rcases (by omega : q = 0 ∨ q = 1 ∨ q = 2 ∨ q = 3 ∨ q = 4 ∨ q = 5) with rfl | rfl | rfl | rfl | rfl | rfl <;> simp
/-- a rule may leave states of t out -/
def rlv (S : Nat → Nat) (r t : Nat) : Prop := (v_ofRule S r 0 = 0 ∧ t = v_ofRule S r 1) ∨ (v_ofRule S r 0 = 3 ∧ ¬ lsd S r t = 0) ∨ (v_inN (v_ofRule S r 0) 1 2 = true ∧ (t = v_ofRule S r 1 ∨ t = v_ofRule S r 3))
/-- what a step by r on t rests on, of a step on q -/
def rst (S : Nat → Nat) (r t q : Nat) : Bool := if q = t then false else (if v_ofRule S r 0 = 3 then (if lsd S r q = 0 then false else true) else (if v_ofRule S r 0 = 0 then false else (if q = v_ofRule S r 1 then true else (if q = v_ofRule S r 3 then true else false))))
theorem cnd_lt {S : Nat → Nat} (hW : wfB S) {r t : Nat} (hr : r < 30) : cnd S r t < 64 := by
  have h1 := hW.r1 hr
  have h3 := hW.r3 hr
  unfold cnd
  split
  · decide
  · split
    · exact Nat.lt_of_le_of_lt Nat.and_le_left (pks_lt S r)
    · split
      · exact (Nat.pow_lt_pow_right (by decide) h3 : 2 ^ v_ofRule S r 3 < 2 ^ 6)
      · exact (Nat.pow_lt_pow_right (by decide) h1 : 2 ^ v_ofRule S r 1 < 2 ^ 6)
theorem cnd_bit {S : Nat → Nat} (hW : wfB S) (hP : wfP S) {r t q : Nat} (hr : r < S 1) (ht : t < 6) (hq : q < 6) (hl : rlv S r t) : (cnd S r t / 2 ^ q % 2 = 1) ↔ rst S r t q = true := by
  have hr30 : r < 30 := by have := hW.r; omega
  have h1 := hW.r1 hr30
  have h3 := hW.r3 hr30
  unfold cnd rst
  rcases hl with ⟨h0, e⟩ | ⟨h0, e⟩ | ⟨h0, e⟩
  · rw [h0]
    simp
  · rw [h0, if_neg (by decide), if_pos rfl, bit_unv _ (pks_lt S r) t ht q hq, bit_pks S r hq]
    by_cases e1 : q = t <;> by_cases e2 : lsd S r q = 0 <;> simp [e1, e2]
    all_goals (subst e1; simp_all)
  · have hp := hP r hr h0
    have h0' : v_ofRule S r 0 = 1 ∨ v_ofRule S r 0 = 2 := by simp [v_inN] at h0; omega
    have n0 : ¬ v_ofRule S r 0 = 0 := by omega
    have n3 : ¬ v_ofRule S r 0 = 3 := by omega
    rw [if_neg n0, if_neg n3, if_neg n3, if_neg n0]
    rcases e with e | e
    · rw [if_pos e, bit_pow _ h3 q hq, e]
      by_cases e1 : q = v_ofRule S r 1
      · simp [e1, hp]
      · by_cases e3 : q = v_ofRule S r 3 <;> simp [e1, e3]
        intro z; exact e1 (e3.trans z)
    · rw [if_neg (fun z => hp (z.symm.trans e)), bit_pow _ h1 q hq, e]
      by_cases e3 : q = v_ofRule S r 3
      · have : ¬ v_ofRule S r 3 = v_ofRule S r 1 := fun z => hp z.symm
        simp [e3, this]
      · by_cases e1 : q = v_ofRule S r 1 <;> simp [e1, e3]
        intro z; exact e3 (e1.trans z)
/-- a step's cell -/
def jst (M : jv_M) (S : Nat → Nat) (T : t_T2) (i a : Nat) : Prop := M a = some (.inr (9, [.int (nI (tb T i)), .int (nI (tp T i)), .int (nI (tg T i)), .long (lN (rsN S T i))]))
/-- over a memory B: a trace at t, of the board at b that holds S -/
def jtc (G : jv_G) (σ : jk_A) (B M : jv_M) (S : Nat → Nat) (b t : Nat) (T : t_T2) (ma le sl N e : Nat) (mc : Int32) (gm gl : Nat → Int32) (f : Nat → Option Nat) (V : Nat → Nat) : Prop :=
  (M t = some (.inr (8, [.ref b, .ref ma, .ref le, .ref sl, .int (cfI (tc T))])) ∧ G.1 ≤ t ∧ B t = none) ∧
  (M ma = some (.inl (G.2.2.1 0, S 1, .inl gm)) ∧ G.1 ≤ ma ∧ B ma = none ∧ ∀ k, k < S 1 → gm k = nI (msk S k)) ∧
  (M le = some (.inl (G.2.2.1 0, 6, .inl gl)) ∧ G.1 ≤ le ∧ B le = none ∧ ∀ p, p < 6 → gl p = nI (tl T p)) ∧ ma ≠ le ∧
  (jdl G σ M sl (tn T) N e f mc ∧ B sl = none ∧ (10 ≤ N → B e = none)) ∧ (∀ i, i < tn T → f i = some (V i) ∧ jst M S T i (V i)) ∧ jag B M
def jtr (G : jv_G) (σ : jk_A) (B M : jv_M) (S : Nat → Nat) (b t : Nat) (T : t_T2) : Prop := ∃ ma le sl N e mc gm gl f V, jtc G σ B M S b t T ma le sl N e mc gm gl f V
theorem rsK_eq {S : Nat → Nat} {T T' : t_T2} {i : Nat} (hb : tb T' i = tb T i) (hp : tp T' i = tp T i) : ∀ {k : Nat}, (∀ j, j < k → tp T' j = tp T j) → rsK S T' i k = rsK S T i k
  | 0, _ => rfl
  | k + 1, h => by
    unfold rsK
    rw [rsK_eq hb hp (fun j hj => h j (by omega))]
    unfold v_rests
    rw [hb, hp, h k (by omega)]
theorem rsK_sf {S : Nat → Nat} (hW : wfB S) (hP : wfP S) {T T' : t_T2} {i who p : Nat} (hb : tb T' i = who) (hp : tp T' i = p) (hw : who < S 1) (hp6 : p < 6) (hl : rlv S who p) : ∀ {k : Nat}, (∀ j, j < k → tp T' j = tp T j ∧ tp T j < 6) → rsK S T' i k = sfN T (cnd S who p) k
  | 0, _ => rfl
  | k + 1, h => by
    unfold rsK sfN
    rw [rsK_sf hW hP hb hp hw hp6 hl (fun j hj => h j (by omega))]
    obtain ⟨h1, h2⟩ := h k (by omega)
    have hc := cnd_bit hW hP hw hp6 h2 hl
    have e : v_rests S T' i k = rst S who p (tp T k) := by
      unfold v_rests rst
      rw [hb, hp, h1, if_neg (by have := hW.r; omega)]
    rw [e]
    by_cases z : rst S who p (tp T k) = true
    · rw [if_pos z, if_pos (hc.mpr z)]
    · rw [if_neg z, if_neg (fun w => z (hc.mp w))]
theorem rsK_no {S : Nat → Nat} {T' : t_T2} {i : Nat} (hb : 100 ≤ tb T' i) : ∀ k : Nat, rsK S T' i k = 0
  | 0 => rfl
  | k + 1 => by
    unfold rsK v_rests
    rw [rsK_no hb k, if_pos hb]
    simp
