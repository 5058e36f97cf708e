/-! what is reached: the same, whether a round looks at what it has added or not -/
set_option maxRecDepth 100000
def rcl (S : Nat → Nat) (c : Nat → Nat) (m : Int32) (W : Nat) : Prop := ∀ r, r < S 1 → (m >>> (nI r &&& 31)) &&& nI 1 = nI 1 → (v_ofRule S r 0 = 0 → W.testBit (v_ofRule S r 1) = true) ∧ (v_ofRule S r 0 = 1 → W.testBit (v_ofRule S r 1) = true → c (v_ofRule S r 1) = v_ofRule S r 2 → W.testBit (v_ofRule S r 3) = true)
def sbs (a b : Nat) : Prop := ∀ j, a.testBit j = true → b.testBit j = true
theorem sbs.rf {a : Nat} : sbs a a := fun _ h => h
theorem sbs.tr {a b c : Nat} (h : sbs a b) (h2 : sbs b c) : sbs a c := fun j z => h2 j (h j z)
theorem sbs.eq {a b : Nat} (h : sbs a b) (h2 : sbs b a) : a = b := by
  apply Nat.eq_of_testBit_eq
  intro j
  cases e : b.testBit j
  · cases e2 : a.testBit j
    · rfl
    · rw [h j e2] at e; cases e
  · exact h2 j e
theorem sbs.le {a b : Nat} (h : sbs a b) : a ≤ b := by
  have e : b = a ||| b := by
    apply Nat.eq_of_testBit_eq
    intro j
    rw [Nat.testBit_or]
    cases e2 : a.testBit j
    · rfl
    · rw [h j e2]; rfl
  rw [e]; exact Nat.left_le_or
theorem sbs.or {a b c : Nat} (h : sbs a c) (h2 : sbs b c) : sbs (a ||| b) c := fun j z => by
  rw [Nat.testBit_or, Bool.or_eq_true] at z
  exact z.elim (h j) (h2 j)
theorem sbs.orl {a b : Nat} : sbs a (a ||| b) := fun j z => by rw [Nat.testBit_or, z]; rfl
theorem sbs.orr {a b : Nat} : sbs b (a ||| b) := fun j z => by rw [Nat.testBit_or, z, Bool.or_true]
theorem sbs.zero {a : Nat} : sbs 0 a := fun j z => by rw [Nat.zero_testBit] at z; cases z
theorem sbs.pow {k a : Nat} (h : a.testBit k = true) : sbs (2 ^ k) a := fun j z => by
  rw [pow_bit, decide_eq_true_eq] at z
  rw [← z]; exact h
theorem sbs_cnt {a b : Nat} (h : sbs a b) : ∀ n, cntN a n ≤ cntN b n
  | 0 => Nat.le_refl _
  | n + 1 => by
    have ih := sbs_cnt h n
    rw [cntB, cntB]
    by_cases e : a.testBit n = true
    · rw [if_pos e, if_pos (h n e)]; omega
    · rw [if_neg e]; omega
theorem sbs_lt {a b : Nat} (h : sbs a b) : ∀ n, a < 2 ^ n → b < 2 ^ n → a ≠ b → cntN a n < cntN b n := by
  intro n ha hb hne
  refine Nat.lt_of_not_le fun z => hne (h.eq fun j hj => ?_)
  have hall : ∀ k, k ≤ n → cntN b k ≤ cntN a k := by
    intro k hk
    have h1 : ∀ d, k + d ≤ n → cntN b (k + d) ≤ cntN a (k + d) → cntN b k ≤ cntN a k := by
      intro d
      induction d with
      | zero => intro _ z; exact z
      | succ d ih =>
        intro hd z
        refine ih (by omega) ?_
        have e : k + (d + 1) = (k + d) + 1 := by omega
        rw [e, cntB, cntB] at z
        have s := sbs_cnt h (k + d)
        by_cases y : a.testBit (k + d) = true
        · rw [if_pos y, if_pos (h _ y)] at z; omega
        · rw [if_neg y] at z; omega
    exact h1 (n - k) (by omega) (by rw [show k + (n - k) = n by omega]; exact z)
  by_cases hjn : j < n
  · have h1 := hall (j + 1) (by omega)
    have h2 := sbs_cnt h j
    rw [cntB, cntB, if_pos hj] at h1
    by_cases y : a.testBit j = true
    · exact y
    · rw [if_neg y] at h1; omega
  · have := Nat.testBit_lt_two_pow (Nat.lt_of_lt_of_le hb (Nat.pow_le_pow_right (by decide) (by omega : n ≤ j)))
    rw [this] at hj; cases hj
theorem btA1 {w k : Nat} : w / 2 ^ k &&& 1 = 1 ↔ w.testBit k = true := by rw [Nat.testBit_eq_decide_div_mod_eq, decide_eq_true_eq, Nat.and_one_is_mod]
theorem rch1_up (S c m r w) : sbs w (rch1 S c m r w) := by
  unfold rch1
  repeat' split
  all_goals first | exact sbs.rf | exact sbs.orl
theorem rch1_min {S c m r w V} (hr : r < S 1) (hV : rcl S c m V) (h : sbs w V) : sbs (rch1 S c m r w) V := by
  unfold rch1
  split
  · rename_i hm
    have := hV r hr hm
    split
    · rename_i h0; exact h.or (sbs.pow (this.1 h0))
    · split
      · rename_i h1
        split
        · rename_i hb
          split
          · rename_i hc; exact h.or (sbs.pow (this.2 h1 (h _ (btA1.mp hb)) hc))
          · exact h
        · exact h
      · exact h
  · exact h
theorem rchR_up (S c m) : ∀ r w, sbs w (rchR S c m r w)
  | 0, _ => sbs.rf
  | r + 1, w => (rchR_up S c m r w).tr (rch1_up _ _ _ _ _)
theorem rchR_min {S c m V} (hV : rcl S c m V) : ∀ r w, r ≤ S 1 → sbs w V → sbs (rchR S c m r w) V
  | 0, _, _, h => h
  | r + 1, w, hr, h => rch1_min (by omega) hV (rchR_min hV r w (by omega) h)
theorem rchT_min {S c m V} (hV : rcl S c m V) : ∀ t, sbs (rchT S c m t) V
  | 0 => sbs.zero
  | t + 1 => rchR_min hV _ _ (Nat.le_refl _) (rchT_min hV t)
theorem rchT_up (S c m t) : sbs (rchT S c m t) (rchT S c m (t + 1)) := rchR_up S c m _ _
/-- a round that changes nothing: closed -/
theorem rchR_cl {S c m w} (h : rchR S c m (S 1) w = w) : rcl S c m w := by
  have hk : ∀ d r, r + d = S 1 → rchR S c m r w = w := by
    intro d
    induction d with
    | zero => intro r hr; rw [show r = S 1 by omega]; exact h
    | succ d ih =>
      intro r hr
      have h1 := ih (r + 1) (by omega)
      have h2 : sbs (rchR S c m r w) w := by
        have := rch1_up S c m r (rchR S c m r w)
        rw [show rch1 S c m r (rchR S c m r w) = w from h1] at this
        exact this
      exact h2.eq (rchR_up S c m r w)
  intro r hr hm
  have h0 := hk (S 1 - r) r (by omega)
  have h1 : rch1 S c m r w = w := by
    have := hk (S 1 - (r + 1)) (r + 1) (by omega)
    unfold rchR at this
    rw [h0] at this; exact this
  constructor
  · intro z
    unfold rch1 at h1
    rw [if_pos hm, if_pos z] at h1
    rw [← h1]; exact sbs.orr _ (by rw [pow_bit]; simp)
  · intro z hb hc
    unfold rch1 at h1
    rw [if_pos hm, if_neg (by omega), if_pos z, if_pos (btA1.mpr hb), if_pos hc] at h1
    rw [← h1]; exact sbs.orr _ (by rw [pow_bit]; simp)
theorem rch1_lt0 {S c m r w n} (h1 : v_ofRule S r 1 < n) (h3 : v_ofRule S r 3 < n) (hw : w < 2 ^ n) : rch1 S c m r w < 2 ^ n := by
  have p1 : 2 ^ v_ofRule S r 1 < 2 ^ n := Nat.pow_lt_pow_right (by decide) h1
  have p3 : 2 ^ v_ofRule S r 3 < 2 ^ n := Nat.pow_lt_pow_right (by decide) h3
  have o1 := Nat.or_lt_two_pow (n := n) hw p1
  have o3 := Nat.or_lt_two_pow (n := n) hw p3
  unfold rch1
  repeat' split
  all_goals assumption
theorem rchR_n {S c m} (hS : wfS S) : ∀ r w, r ≤ S 1 → w < 2 ^ S 0 → rchR S c m r w < 2 ^ S 0
  | 0, _, _, h => h
  | r + 1, w, hr, h => rch1_lt0 (hS.2.1 r (by omega)).1 (hS.2.1 r (by omega)).2 (rchR_n hS r w (by omega) h)
theorem rchT_n {S c m} (hS : wfS S) : ∀ t, rchT S c m t < 2 ^ S 0
  | 0 => Nat.two_pow_pos _
  | t + 1 => rchR_n hS _ _ (Nat.le_refl _) (rchT_n hS t)
theorem rchT_st {S c m t} (h : rchT S c m (t + 1) = rchT S c m t) : ∀ d, rchT S c m (t + d) = rchT S c m t
  | 0 => rfl
  | d + 1 => by
    show rchR S c m (S 1) (rchT S c m (t + d)) = _
    rw [rchT_st h d]; exact h
theorem rchT_cn {S c m} (hS : wfS S) : ∀ n, (∀ t, t < n → rchT S c m (t + 1) ≠ rchT S c m t) → n ≤ cntN (rchT S c m n) (S 0)
  | 0, _ => Nat.zero_le _
  | n + 1, h => by
    have ih := rchT_cn hS n (fun t ht => h t (by omega))
    have := sbs_lt (rchT_up S c m n) (S 0) (rchT_n hS n) (rchT_n hS (n + 1)) (Ne.symm (h n (by omega)))
    omega
theorem rchT_cl {S c m} (hS : wfS S) : rcl S c m (rchT S c m (S 0 + 1)) := by
  refine Classical.byContradiction fun z => ?_
  have hn : ∀ t, t < S 0 + 1 → rchT S c m (t + 1) ≠ rchT S c m t := by
    intro t ht e
    apply z
    have e2 := rchT_st e (S 0 + 1 - t)
    rw [show t + (S 0 + 1 - t) = S 0 + 1 by omega] at e2
    rw [e2]
    exact rchR_cl e
  have h1 := rchT_cn hS _ hn
  have := cntN_le (rchT S c m (S 0 + 1)) (S 0)
  omega
/-- the component's rounds -/
def rbP (S : Nat → Nat) (c : Nat → Nat) (r w : Nat) : Nat → Nat
  | 0 => 0
  | p + 1 => rbP S c r w p ||| (if w / 2 ^ p &&& 1 = 1 then (if v_ofRule S r 0 = 1 then (if v_ofRule S r 1 = p ∧ v_ofRule S r 2 = c p then 2 ^ v_ofRule S r 3 else 0) else 0) else 0)
def rby (S : Nat → Nat) (c : Nat → Nat) (r w : Nat) : Nat := if v_ofRule S r 0 = 0 then 2 ^ v_ofRule S r 1 else rbP S c r w (S 0)
def jcR (S : Nat → Nat) (c : Nat → Nat) (m : Int32) (w : Nat) : Nat → Nat
  | 0 => w
  | r + 1 => jcR S c m w r ||| (if (m >>> (nI r &&& 31)) &&& nI 1 = nI 1 then rby S c r w else 0)
theorem rbP_lt {S c r w} (h3 : v_ofRule S r 3 < 6) : ∀ p, rbP S c r w p < 64
  | 0 => by unfold rbP; decide
  | p + 1 => by
    unfold rbP
    refine Nat.or_lt_two_pow (n := 6) (rbP_lt h3 p) ?_
    have := Nat.pow_lt_pow_right (a := 2) (by decide) h3
    repeat' split
    all_goals first | exact this | decide
theorem rby_lt {S c r w} (h1 : v_ofRule S r 1 < 6) (h3 : v_ofRule S r 3 < 6) : rby S c r w < 64 := by
  unfold rby
  split
  · exact Nat.pow_lt_pow_right (a := 2) (n := 6) (by decide) h1
  · exact rbP_lt h3 _
theorem rbP_min {S c m r w V} (hr : r < S 1) (hm : (m >>> (nI r &&& 31)) &&& nI 1 = nI 1) (hV : rcl S c m V) (h : sbs w V) : ∀ p, sbs (rbP S c r w p) V
  | 0 => sbs.zero
  | p + 1 => by
    unfold rbP
    refine (rbP_min hr hm hV h p).or ?_
    split
    · rename_i hb
      split
      · rename_i h1
        split
        · rename_i hc
          exact sbs.pow ((hV r hr hm).2 h1 (by rw [hc.1]; exact h _ (btA1.mp hb)) (by rw [hc.1, hc.2]))
        · exact sbs.zero
      · exact sbs.zero
    · exact sbs.zero
theorem jcR_min {S c m w V} (hV : rcl S c m V) (h : sbs w V) : ∀ r, r ≤ S 1 → sbs (jcR S c m w r) V
  | 0, _ => h
  | r + 1, hr => by
    unfold jcR
    refine (jcR_min hV h r (by omega)).or ?_
    split
    · rename_i hm
      unfold rby
      split
      · rename_i h0; exact sbs.pow ((hV r (by omega) hm).1 h0)
      · exact rbP_min (by omega) hm hV h _
    · exact sbs.zero
theorem jcR_up (S c m w) : ∀ r, sbs w (jcR S c m w r)
  | 0 => sbs.rf
  | r + 1 => (jcR_up S c m w r).tr sbs.orl
theorem jcR_lt {S c m w} (hW : wfB S) (hw : w < 64) : ∀ r, r ≤ 30 → jcR S c m w r < 64
  | 0, _ => hw
  | r + 1, hr => by
    unfold jcR
    refine Nat.or_lt_two_pow (n := 6) (jcR_lt hW hw r (by omega)) ?_
    split
    · exact rby_lt (hW.r1 (by omega)) (hW.r3 (by omega))
    · decide
theorem jcR_in {S c m w} : ∀ n r, r < n → (m >>> (nI r &&& 31)) &&& nI 1 = nI 1 → sbs (rby S c r w) (jcR S c m w n)
  | 0, _, h, _ => absurd h (Nat.not_lt_zero _)
  | n + 1, r, h, hm => by
    unfold jcR
    by_cases e : r = n
    · rw [e] at hm ⊢
      rw [if_pos hm]; exact sbs.orr
    · exact (jcR_in n r (by omega) hm).tr sbs.orl
theorem rbP_in {S c r w} (h1 : v_ofRule S r 0 = 1) (hb : w.testBit (v_ofRule S r 1) = true) (hc : c (v_ofRule S r 1) = v_ofRule S r 2) : ∀ n, v_ofRule S r 1 < n → (rbP S c r w n).testBit (v_ofRule S r 3) = true
  | 0, h => absurd h (Nat.not_lt_zero _)
  | n + 1, h => by
    unfold rbP
    by_cases e : v_ofRule S r 1 = n
    · rw [← e, if_pos (btA1.mpr hb), if_pos h1, if_pos ⟨rfl, hc.symm⟩]
      exact sbs.orr _ (by rw [pow_bit]; simp)
    · exact sbs.orl _ (rbP_in h1 hb hc n (by omega))
theorem jcR_cl {S c m w} (hS : wfS S) (h : jcR S c m w (S 1) = w) : rcl S c m w := by
  intro r hr hm
  have hi := jcR_in (S := S) (c := c) (w := w) (S 1) r hr hm
  rw [h] at hi
  unfold rby at hi
  constructor
  · intro z
    rw [if_pos z] at hi
    exact hi _ (by rw [pow_bit]; simp)
  · intro z hb hc
    rw [if_neg (by omega)] at hi
    exact hi _ (rbP_in z hb hc _ (hS.2.1 r hr).1)
theorem rch_e {S c m w} (hS : wfS S) (h : jcR S c m w (S 1) = w) (hmin : ∀ V, rcl S c m V → sbs w V) : w = rchT S c m (S 0 + 1) := (hmin _ (rchT_cl hS)).eq (rchT_min (jcR_cl hS h) _)
/-- what is asked of a package's states looks at nothing behind it -/
theorem hbit_c {S : Nat → Nat} {r : Nat} {c c' : Nat → Nat} (h : c (rgp S r) = c' (rgp S r)) : hbit S r c = hbit S r c' := by unfold hbit; rw [h]
theorem hldN_c {S : Nat → Nat} {r : Nat} {c c' : Nat → Nat} : ∀ d p, (∀ q, q < p + d → ¬ lsd S r q = 0 → c q = c' q) → hldN S r c d p = hldN S r c' d p
  | 0, _, _ => rfl
  | d + 1, p, h => by
    unfold hldN
    rw [hldN_c d (p + 1) (fun q hq => h q (by omega))]
    by_cases e : lsd S r p = 0
    · rw [if_pos e, if_pos e]
    · rw [h p (by omega) e]
theorem hld_c {S : Nat → Nat} (hW : wfB S) {r : Nat} {c c' : Nat → Nat} (h : ∀ q, q ≤ lst_ S r → c q = c' q) : hld S r c = hld S r c' := by
  have hg := lst_ge (S := S) (r := r)
  have h6 := hW.p
  unfold hld
  by_cases e : v_ofRule S r 0 = 3
  · rw [if_pos e, if_pos e]
    exact hldN_c _ _ (fun q hq hd => h q (hg.1 e q (by omega) hd))
  · obtain ⟨g1, g2⟩ := hg.2 e
    rw [if_neg e, if_neg e, hbit_c (h _ g2), h _ g1]
theorem asaN_c {S : Nat → Nat} {p : Nat} {c c' : Nat → Nat} (h : c p = c' p) : ∀ n, asaN S p c n = asaN S p c' n
  | 0 => rfl
  | n + 1 => by unfold asaN; rw [asaN_c h n, h]
theorem fit_c {S : Nat → Nat} (hW : wfB S) {m : Int32} {p : Nat} {c c' : Nat → Nat} (h : ∀ q, q ≤ p → c q = c' q) : fit_ S m p c = fit_ S m p c' := by
  unfold fit_
  have : ∀ n, fitN S m p c n = fitN S m p c' n := by
    intro n
    induction n with
    | zero => exact asaN_c (h p (Nat.le_refl _)) _
    | succ n ih =>
      unfold fitN fit1
      rw [ih]
      by_cases e : lst_ S n = p
      · rw [hld_c hW (c' := c') (fun q hq => h q (by omega))]
      · rw [if_neg e, if_neg e]
  exact this _
theorem rchT_c {S : Nat → Nat} (hS : wfS S) {m : Int32} {c c' : Nat → Nat} (h : ∀ q, q < S 0 → c q = c' q) : ∀ t, rchT S c m t = rchT S c' m t := by
  have hR : ∀ r w, r ≤ S 1 → rchR S c m r w = rchR S c' m r w := by
    intro r
    induction r with
    | zero => intro w _; rfl
    | succ r ih =>
      intro w hr
      unfold rchR rch1
      rw [ih w (by omega), h _ (hS.2.1 r (by omega)).1]
  intro t
  induction t with
  | zero => rfl
  | succ t ih => unfold rchT; rw [ih, hR _ _ (Nat.le_refl _)]
theorem unrN_c {c c' : Nat → Nat} {w : Nat} : ∀ d p, (∀ q, q < p + d → c q = c' q) → unrN c w d p = unrN c' w d p
  | 0, _, _ => rfl
  | d + 1, p, h => by
    unfold unrN
    rw [unrN_c d (p + 1) (fun q hq => h q (by omega)), h p (by omega)]
theorem unr_c {S : Nat → Nat} (hS : wfS S) {m : Int32} {c c' : Nat → Nat} (h : ∀ q, q < S 0 → c q = c' q) : unr S c m = unr S c' m := by
  unfold unr
  rw [rchT_c hS h, unrN_c _ _ (fun q hq => h q (by omega))]
