/-! assumptions, blame, what is learned -/
set_option maxRecDepth 100000
theorem pigeon : ∀ (n : Nat) (f : Nat → Nat), (∀ i, i ≤ n → f i < n) → ∃ i j, i < j ∧ j ≤ n ∧ f i = f j
  | 0, f, h => absurd (h 0 (Nat.le_refl _)) (Nat.not_lt_zero _)
  | n + 1, f, h => by
    by_cases e : ∃ i, i ≤ n ∧ f i = f (n + 1)
    · obtain ⟨i, hi, he⟩ := e
      exact ⟨i, n + 1, by omega, Nat.le_refl _, he⟩
    · have hv := h (n + 1) (Nat.le_refl _)
      obtain ⟨i, j, h1, h2, h3⟩ := pigeon n (fun i => if f (n + 1) < f i then f i - 1 else f i) (fun i hi => by
        have a := h i (by omega)
        have b : f i ≠ f (n + 1) := fun z => e ⟨i, hi, z⟩
        show (if f (n + 1) < f i then f i - 1 else f i) < n
        split <;> omega)
      refine ⟨i, j, h1, by omega, ?_⟩
      have a1 : f i ≠ f (n + 1) := fun z => e ⟨i, by omega, z⟩
      have a2 : f j ≠ f (n + 1) := fun z => e ⟨j, by omega, z⟩
      have h3 : (if f (n + 1) < f i then f i - 1 else f i) = (if f (n + 1) < f j then f j - 1 else f j) := h3
      split at h3 <;> split at h3 <;> omega
theorem asdN_f {S : Nat → Nat} {p : Nat} : ∀ {n a : Nat}, asdN S p n = false → a < n → ¬ S (225 + 2 * a) = p
  | 0, _, _, ha => absurd ha (Nat.not_lt_zero _)
  | n + 1, a, h, ha => by
    intro e
    rw [asdN_t ha e] at h
    cases h
theorem asm_room {S : Nat → Nat} (hW : wfS S) {p : Nat} (hp : p < S 0) (h : asdN S p (S 2) = false) : S 2 < 6 := by
  have h0 := hW.1.p
  have h2 := hW.1.a
  rcases Nat.lt_or_ge (S 2) 6 with a | a
  · exact a
  · exfalso
    obtain ⟨i, j, h1, h3, h4⟩ := pigeon 6 (fun i => if i < 6 then v_asm S i 0 else p) (fun i hi => by
      show (if i < 6 then v_asm S i 0 else p) < 6
      split
      · exact Nat.lt_of_lt_of_le (hW.2.2.1 i (by omega)) h0
      · omega)
    have h4 : (if i < 6 then v_asm S i 0 else p) = (if j < 6 then v_asm S j 0 else p) := h4
    rw [if_pos (by omega)] at h4
    split at h4
    · exact hW.2.2.2 i j h1 (by omega) h4
    · exact asdN_f h (a := i) (by omega) h4
def asmS (S : Nat → Nat) (p v : Nat) : Nat → Nat := up2 (up2 (up2 S (225 + (2 * S 2)) p) ((225 + (2 * S 2)) + 1) v) 2 (S 2 + 1)
theorem up2_o {f : Nat → Nat} {k v j : Nat} (h : j ≠ k) : up2 f k v j = f j := if_neg h
theorem up2_s {f : Nat → Nat} {k v : Nat} : up2 f k v k = v := if_pos rfl
theorem asmS_o {S : Nat → Nat} {p v j : Nat} (h2 : j ≠ 2) (h : j < 225 + 2 * S 2 ∨ 225 + 2 * S 2 + 1 < j) : asmS S p v j = S j := by
  unfold asmS
  rw [up2_o h2, up2_o (by omega), up2_o (by omega)]
theorem asmS_a {S : Nat → Nat} {p v a w : Nat} (hw : w < 2) (ha : a ≠ S 2) : v_asm (asmS S p v) a w = v_asm S a w := asmS_o (by omega) (by omega)
theorem asmS_n0 {S : Nat → Nat} {p v : Nat} : v_asm (asmS S p v) (S 2) 0 = p := by
  unfold v_asm asmS
  rw [up2_o (by omega), up2_o (by omega)]
  exact up2_s
theorem asmS_n1 {S : Nat → Nat} {p v : Nat} : v_asm (asmS S p v) (S 2) 1 = v := by
  unfold v_asm asmS
  rw [up2_o (by omega)]
  exact up2_s
theorem wfS.asm {S : Nat → Nat} (hW : wfS S) {p v : Nat} (hp : p < S 0) (hv : v ≤ 5) (h : asdN S p (S 2) = false) : wfS (asmS S p v) := by
  have h6 := asm_room hW hp h
  obtain ⟨⟨b0, b1, b2, b3, b4, b5⟩, w1, w2, w3⟩ := hW
  have e0 : asmS S p v 0 = S 0 := asmS_o (by decide) (by omega)
  have e1 : asmS S p v 1 = S 1 := asmS_o (by decide) (by omega)
  have e2 : asmS S p v 2 = S 2 + 1 := up2_s
  have ev : ∀ q w, q < 6 → w < 7 → v_of (asmS S p v) q w = v_of S q w := fun q w hq hw => asmS_o (by omega) (by omega)
  have er : ∀ q w, q < 30 → w < 6 → v_ofRule (asmS S p v) q w = v_ofRule S q w := fun q w hq hw => asmS_o (by omega) (by omega)
  refine ⟨⟨by rw [e0]; exact b0, by rw [e1]; exact b1, by rw [e2]; omega, fun q hq => ?_, fun q hq => ?_, fun a ha => ?_⟩, fun r hr => ?_, fun a ha => ?_, fun a b hab hb => ?_⟩
  · rw [ev q 0 hq (by decide), ev q 1 hq (by decide)]
    exact ⟨(b3 q hq).1, (b3 q hq).2.1, fun w hw => by rw [ev q _ hq (by omega)]; exact (b3 q hq).2.2 w hw⟩
  · rw [er q 0 hq (by decide), er q 1 hq (by decide), er q 2 hq (by decide), er q 3 hq (by decide), er q 4 hq (by decide), er q 5 hq (by decide)]
    exact b4 q hq
  · by_cases e : a = S 2
    · rw [e, asmS_n0, asmS_n1]; omega
    · rw [asmS_a (by decide) e, asmS_a (by decide) e]; exact b5 a ha
  · rw [e1] at hr
    rw [e0, er r 1 (by omega) (by decide), er r 3 (by omega) (by decide)]
    exact w1 r hr
  · rw [e2] at ha
    rw [e0]
    by_cases e : a = S 2
    · rw [e, asmS_n0]; exact hp
    · rw [asmS_a (by decide) e]; exact w2 a (by omega)
  · rw [e2] at hb
    rw [asmS_a (by decide) (by omega : a ≠ S 2)]
    by_cases e : b = S 2
    · rw [e, asmS_n0]; exact asdN_f h (by omega)
    · rw [asmS_a (by decide) e]; exact w3 a b hab (by omega)
def m_assume (z : t_Z) (S : Nat → Nat) (p v : Int32) : Int32 × t_Z := if v_isPack S p = true then (if v_isState S p v = true then (if tc (gA S) = 6 then (if tl (gA S) p.toNatClampNeg / 2 ^ v.toNatClampNeg &&& 1 = 0 then ((-3), z) else (if asdN S p.toNatClampNeg (S 2) = true then ((-3), z) else
  (nI (tn (gA (asmS S p.toNatClampNeg v.toNatClampNeg))), zput z S (asmS S p.toNatClampNeg v.toNatClampNeg)))) else ((-3), z)) else ((-2), z)) else ((-1), z)
def blmN (S : Nat → Nat) : Nat → Nat → Int32 → Int32
  | 0, _, w => w
  | d + 1, a, w => blmN S d (a + 1) (w &&& (if tc (goT S (w &&& unv (2 ^ a))) = 6 then nI 63 else unv (2 ^ a)))
theorem blmN_s {S : Nat → Nat} {d a : Nat} {w : Int32} (h : 0 < d) : blmN S d a w = blmN S (d - 1) (a + 1) (w &&& (if tc (goT S (w &&& unv (2 ^ a))) = 6 then nI 63 else unv (2 ^ a))) := by
  obtain ⟨d, rfl⟩ : ∃ e, d = e + 1 := ⟨d - 1, by omega⟩
  rfl
def blm (S : Nat → Nat) : Int32 := blmN S (S 2) 0 (nI (2 ^ S 2 - 1))
def m_blamed (S : Nat → Nat) : Int32 := if tc (gA S) = 6 then (-3) else blm S
/-- what is learned, how many assumptions are kept, the last looked at -/
def lrn (S : Nat → Nat) (w : Int32) : Nat → Nat × Nat × Nat
  | 0 => (0, 0, 0)
  | a + 1 => if (w >>> (nI a &&& 31)) &&& nI 1 = nI 1 then ((lrn S w a).1 + (v_asm S a 1 + 1) * 7 ^ v_asm S a 0, (lrn S w a).2.2, a + 1) else lrn S w a
def lrnS (S : Nat → Nat) (w : Int32) : Nat → Nat := up2 (addS S 3 0 0 0 0 (lrn S w (S 2)).1) 2 (lrn S w (S 2)).2.1
def lrnW (S : Nat → Nat) : Int32 := if tc (gA S) = 6 then nI 0 else blm S
def m_learn (z : t_Z) (S : Nat → Nat) : Int32 × t_Z := if lrnW S = 0 then ((-3), z) else (if S 1 = 30 then ((-4), z) else (nI (lrn S (lrnW S) (S 2)).2.1, zput z S (lrnS S (lrnW S))))
