/-! the steps of a proof: what they rest on, gathered -/
set_option maxRecDepth 100000
def ndf (a b : Nat) : Nat := (a ||| b) ^^^ b
theorem ndf_bit (a b j : Nat) : (ndf a b).testBit j = (a.testBit j && !b.testBit j) := by
  unfold ndf
  rw [Nat.testBit_xor, Nat.testBit_or]
  cases a.testBit j <;> cases b.testBit j <;> rfl
theorem ndf_lt {a b n : Nat} (ha : a < 2 ^ n) (hb : b < 2 ^ n) : ndf a b < 2 ^ n := Nat.xor_lt_two_pow (Nat.or_lt_two_pow ha hb) hb
theorem nd_and {a b : Nat} (ha : a < 2 ^ 64) (hb : b < 2 ^ 64) : lN a &&& (lN b ^^^ (-1)) = lN (ndf a b) := by
  apply Int64.toBitVec_inj.mp
  show BitVec.ofNat 64 a &&& (BitVec.ofNat 64 b ^^^ BitVec.allOnes 64) = BitVec.ofNat 64 (ndf a b)
  apply BitVec.eq_of_getLsbD_eq
  intro j hj
  rw [BitVec.getLsbD_and, BitVec.getLsbD_xor, BitVec.getLsbD_allOnes, BitVec.getLsbD_ofNat, BitVec.getLsbD_ofNat, BitVec.getLsbD_ofNat, ndf_bit]
  simp [hj]
def lowF : Nat → Nat → Nat
  | 0, _ => 0
  | k + 1, m => if m % 2 = 1 then 0 else lowF k (m / 2) + 1
def low (m : Nat) : Nat := lowF 64 m
theorem lowF_e : ∀ (k t m c : Nat), m = 2 ^ t * (2 * c + 1) → t < k → lowF k m = t
  | 0, _, _, _, _, h => absurd h (Nat.not_lt_zero _)
  | k + 1, 0, m, c, hm, _ => by
    unfold lowF
    rw [if_pos (by rw [hm, Nat.pow_zero]; omega)]
  | k + 1, t + 1, m, c, hm, h => by
    have e : m = 2 * (2 ^ t * (2 * c + 1)) := by rw [hm, Nat.pow_succ, Nat.mul_comm (2 ^ t) 2, Nat.mul_assoc]
    unfold lowF
    rw [if_neg (by omega), lowF_e k t (m / 2) c (by omega) (by omega)]
theorem low_ex {m n : Nat} (h0 : ¬ m = 0) (h : m < 2 ^ n) (hn : n ≤ 36) : ∃ c, m = 2 ^ low m * (2 * c + 1) ∧ low m < n := by
  obtain ⟨t, c, e⟩ := nz_ex m h0
  have ht := nz_t e h
  have : low m = t := lowF_e 64 t m c e (by omega)
  exact ⟨c, by rw [this]; exact e, by omega⟩
theorem low_bit {m c : Nat} (hm : m = 2 ^ low m * (2 * c + 1)) : m.testBit (low m) = true := by
  have e : m = 2 ^ low m * (2 * c + 1) + 0 := hm
  conv => lhs; arg 1; rw [e]
  rw [Nat.testBit_two_pow_mul_add _ (Nat.two_pow_pos _), if_neg (Nat.lt_irrefl _), Nat.sub_self, Nat.testBit_zero]
  simp
theorem cntB (m : Nat) : ∀ k, cntN m (k + 1) = cntN m k + (if m.testBit k = true then 1 else 0) := by
  intro k
  show cntN m k + m / 2 ^ k % 2 = _
  rw [Nat.testBit_eq_decide_div_mod_eq]
  rcases (by omega : m / 2 ^ k % 2 = 0 ∨ m / 2 ^ k % 2 = 1) with e | e <;> rw [e] <;> simp
theorem pow_bit (k j : Nat) : (2 ^ k).testBit j = decide (k = j) := Nat.testBit_two_pow
theorem cnt_in {m k : Nat} (h : m.testBit k = false) : ∀ n, cntN (m ||| 2 ^ k) n = cntN m n + (if k < n then 1 else 0)
  | 0 => rfl
  | n + 1 => by
    rw [cntB, cntB, cnt_in h n, Nat.testBit_or, pow_bit]
    by_cases e : k = n
    · subst e
      rw [h]
      simp
    · rcases (by omega : k < n ∨ n < k) with h1 | h1
      · simp [e, h1, show k < n + 1 by omega]; omega
      · simp [e, show ¬ k < n by omega, show ¬ k < n + 1 by omega]
theorem cnt_full {m : Nat} : ∀ n, n ≤ cntN m n → ∀ j, j < n → m.testBit j = true
  | 0, _, _, h => absurd h (Nat.not_lt_zero _)
  | n + 1, h, j, hj => by
    have h1 := cntN_le m n
    rw [cntB] at h
    by_cases e : m.testBit n = true
    · rw [if_pos e] at h
      by_cases e2 : j = n
      · rw [e2]; exact e
      · exact cnt_full n (by omega) j (by omega)
    · rw [if_neg e] at h; omega
theorem dis_bit {a b : Nat} : a &&& b = 0 ↔ ∀ j, a.testBit j = true → b.testBit j = false := by
  constructor
  · intro h j ha
    have := congrArg (fun z => z.testBit j) h
    simp only [Nat.testBit_and, Nat.zero_testBit, ha, Bool.true_and] at this
    exact this
  · intro h
    apply Nat.eq_of_testBit_eq
    intro j
    rw [Nat.testBit_and, Nat.zero_testBit]
    cases e : a.testBit j
    · rfl
    · rw [h j e]; rfl
theorem rsK_bit (S : Nat → Nat) (T : t_T2) (i : Nat) : ∀ k j, (rsK S T i k).testBit j = (decide (j < k) && v_rests S T i j)
  | 0, j => by show (0 : Nat).testBit j = _; rw [Nat.zero_testBit]; simp
  | k + 1, j => by
    unfold rsK
    rw [Nat.testBit_or, rsK_bit S T i k j]
    by_cases e : j = k
    · subst e
      by_cases h : v_rests S T i j = true
      · rw [if_pos h, pow_bit]; simp [h]
      · rw [if_neg h, Nat.zero_testBit]; simp [h]
    · have e2 : (if v_rests S T i k = true then 2 ^ k else 0).testBit j = false := by
        split
        · rw [pow_bit]; simp [Ne.symm e]
        · exact Nat.zero_testBit _
      rw [e2]
      rcases (by omega : j < k ∨ k < j) with h1 | h1
      · simp [h1, show j < k + 1 by omega]
      · simp [show ¬ j < k by omega, show ¬ j < k + 1 by omega]
theorem sfN_bit (T : t_T2) (m : Nat) : ∀ k j, (sfN T m k).testBit j = (decide (j < k) && decide (m / 2 ^ tp T j % 2 = 1))
  | 0, j => by show (0 : Nat).testBit j = _; rw [Nat.zero_testBit]; simp
  | k + 1, j => by
    unfold sfN
    rw [Nat.testBit_or, sfN_bit T m k j]
    by_cases e : j = k
    · subst e
      by_cases h : m / 2 ^ tp T j % 2 = 1
      · rw [if_pos h, pow_bit]; simp [h]
      · rw [if_neg h, Nat.zero_testBit]; simp [h]
    · have e2 : (if m / 2 ^ tp T k % 2 = 1 then 2 ^ k else 0).testBit j = false := by
        split
        · rw [pow_bit]; simp [Ne.symm e]
        · exact Nat.zero_testBit _
      rw [e2]
      rcases (by omega : j < k ∨ k < j) with h1 | h1
      · simp [h1, show j < k + 1 by omega]
      · simp [show ¬ j < k by omega, show ¬ j < k + 1 by omega]
def gth (S : Nat → Nat) (T : t_T2) : Nat → Nat → Nat → Nat
  | 0, _, d => d
  | n + 1, t, d => if t = 0 then d else gth S T n (ndf (t ||| rsN S T (low t)) (d ||| 2 ^ low t)) (d ||| 2 ^ low t)
theorem gth_0 (S : Nat → Nat) (T : t_T2) (d : Nat) : ∀ n, gth S T n 0 d = d
  | 0 => rfl
  | _ + 1 => if_pos rfl
/-- what holds from call to call -/
def gok (T : t_T2) (n t d : Nat) : Prop := tn T ≤ cntN d (tn T) + n ∧ t < 2 ^ tn T ∧ d < 2 ^ tn T ∧ t &&& d = 0
theorem rsN_lt {S : Nat → Nat} {T : t_T2} {i : Nat} (h : i < tn T) : rsN S T i < 2 ^ tn T := Nat.lt_of_lt_of_le (rsK_lt S T i i) (Nat.pow_le_pow_right (by decide) (by omega))
theorem gok.st {S : Nat → Nat} {T : t_T2} {n t d : Nat} (h : gok T (n + 1) t d) (h36 : tn T ≤ 36) (h0 : ¬ t = 0) : gok T n (ndf (t ||| rsN S T (low t)) (d ||| 2 ^ low t)) (d ||| 2 ^ low t) := by
  obtain ⟨h1, h2, h3, h4⟩ := h
  obtain ⟨c, hm, hl⟩ := low_ex h0 h2 h36
  have hb := dis_bit.mp h4 _ (low_bit hm)
  have hp : 2 ^ low t < 2 ^ tn T := Nat.pow_lt_pow_right (by decide) hl
  have hd : d ||| 2 ^ low t < 2 ^ tn T := Nat.or_lt_two_pow h3 hp
  refine ⟨?_, ndf_lt (Nat.or_lt_two_pow h2 (rsN_lt hl)) hd, hd, dis_bit.mpr fun j hj => ?_⟩
  · rw [cnt_in hb, if_pos hl]; omega
  · rw [ndf_bit] at hj
    cases e : (d ||| 2 ^ low t).testBit j
    · rfl
    · rw [e] at hj; simp at hj
theorem gok.z {T : t_T2} {t d : Nat} (h : gok T 0 t d) : t = 0 := by
  obtain ⟨h1, h2, h3, h4⟩ := h
  refine Nat.eq_of_testBit_eq fun j => ?_
  rw [Nat.zero_testBit]
  by_cases hj : j < tn T
  · cases e : t.testBit j
    · rfl
    · have := dis_bit.mp h4 j e
      rw [cnt_full _ (by omega) j hj] at this
      cases this
  · exact Nat.testBit_lt_two_pow (Nat.lt_of_lt_of_le h2 (Nat.pow_le_pow_right (by decide) (by omega)))
theorem gth_lo {S : Nat → Nat} {T : t_T2} (h36 : tn T ≤ 36) : ∀ (n t d : Nat), gok T n t d → ∀ j, t.testBit j = true ∨ d.testBit j = true → (gth S T n t d).testBit j = true
  | 0, t, d, h, j, hj => by
    show d.testBit j = true
    rcases hj with hj | hj
    · rw [h.z, Nat.zero_testBit] at hj; cases hj
    · exact hj
  | n + 1, t, d, h, j, hj => by
    unfold gth
    by_cases h0 : t = 0
    · rw [if_pos h0]
      rcases hj with hj | hj
      · rw [h0, Nat.zero_testBit] at hj; cases hj
      · exact hj
    · rw [if_neg h0]
      refine gth_lo h36 n _ _ (h.st h36 h0) j ?_
      rw [ndf_bit, Nat.testBit_or]
      cases e : (d ||| 2 ^ low t).testBit j
      · refine Or.inl ?_
        rcases hj with hj | hj
        · rw [hj]; rfl
        · rw [Nat.testBit_or, hj] at e; cases e
      · exact Or.inr rfl
theorem gth_cl {S : Nat → Nat} {T : t_T2} (h36 : tn T ≤ 36) : ∀ (n t d : Nat), gok T n t d → (∀ i k, d.testBit i = true → (rsN S T i).testBit k = true → t.testBit k = true ∨ d.testBit k = true) → ∀ i k, (gth S T n t d).testBit i = true → (rsN S T i).testBit k = true → (gth S T n t d).testBit k = true
  | 0, t, d, h, hc, i, k, hi, hk => by
    show d.testBit k = true
    rcases hc i k hi hk with z | z
    · rw [h.z, Nat.zero_testBit] at z; cases z
    · exact z
  | n + 1, t, d, h, hc, i, k, hi, hk => by
    unfold gth at hi ⊢
    by_cases h0 : t = 0
    · rw [if_pos h0] at hi ⊢
      rcases hc i k hi hk with z | z
      · rw [h0, Nat.zero_testBit] at z; cases z
      · exact z
    · rw [if_neg h0] at hi ⊢
      refine gth_cl h36 n _ _ (h.st h36 h0) (fun i k hi hk => ?_) i k hi hk
      rw [ndf_bit]
      cases e : (d ||| 2 ^ low t).testBit k
      · refine Or.inl ?_
        rw [Nat.testBit_or]
        rw [Nat.testBit_or, Bool.or_eq_true, pow_bit, decide_eq_true_eq] at hi
        rcases hi with hi | hi
        · rcases hc i k hi hk with z | z
          · rw [z]; rfl
          · rw [Nat.testBit_or, z] at e; cases e
        · rw [hi, hk]; simp
      · exact Or.inr rfl
theorem gth_up {S : Nat → Nat} {T : t_T2} (h36 : tn T ≤ 36) {P : Nat → Prop} (hP : ∀ i k, P i → (rsN S T i).testBit k = true → P k) : ∀ (n t d : Nat), gok T n t d → (∀ j, t.testBit j = true ∨ d.testBit j = true → P j) → ∀ j, (gth S T n t d).testBit j = true → P j
  | 0, t, d, h, hi, j, hj => hi j (Or.inr hj)
  | n + 1, t, d, h, hi, j, hj => by
    unfold gth at hj
    by_cases h0 : t = 0
    · rw [if_pos h0] at hj; exact hi j (Or.inr hj)
    · rw [if_neg h0] at hj
      obtain ⟨c, hm, hl⟩ := low_ex h0 h.2.1 h36
      have hlow := hi _ (Or.inl (low_bit hm))
      refine gth_up h36 hP n _ _ (h.st h36 h0) (fun j hj => ?_) j hj
      rw [ndf_bit, Nat.testBit_or, Nat.testBit_or, Bool.and_eq_true, Bool.or_eq_true, Bool.or_eq_true, pow_bit, decide_eq_true_eq] at hj
      rcases hj with ⟨hj | hj, _⟩ | hj | hj
      · exact hi j (Or.inl hj)
      · exact hP _ _ hlow hj
      · exact hi j (Or.inr hj)
      · rw [← hj]; exact hlow
/-- one of the steps between rests on k -/
theorem prI_bit (S : Nat → Nat) (T : t_T2) (m k : Nat) : ∀ d, prI S T m k d = true ↔ (tp T k = tc T ∨ ∃ i, k < i ∧ i < k + 1 + d ∧ m.testBit i = true ∧ v_rests S T i k = true)
  | 0 => by
    unfold prI
    by_cases h : tp T k = tc T
    · simp [h]
    · simp only [if_neg h]
      constructor
      · intro z; cases z
      · rintro (z | ⟨i, h1, h2, _⟩)
        · exact absurd z h
        · omega
  | d + 1 => by
    have ih := prI_bit S T m k d
    have hb : m / 2 ^ (k + 1 + d) % 2 = 1 ↔ m.testBit (k + 1 + d) = true := by rw [Nat.testBit_eq_decide_div_mod_eq, decide_eq_true_eq]
    unfold prI
    by_cases h : prI S T m k d = true
    · rw [if_pos h]
      refine ⟨fun _ => ?_, fun _ => rfl⟩
      rcases ih.mp h with z | ⟨i, h1, h2, h3⟩
      · exact Or.inl z
      · exact Or.inr ⟨i, h1, by omega, h3⟩
    · rw [if_neg h]
      constructor
      · intro z
        by_cases h1 : m / 2 ^ (k + 1 + d) % 2 = 1
        · rw [if_pos h1] at z
          by_cases h2 : v_rests S T (k + 1 + d) k = true
          · exact Or.inr ⟨k + 1 + d, by omega, by omega, hb.mp h1, h2⟩
          · rw [if_neg h2] at z; cases z
        · rw [if_neg h1] at z; cases z
      · rintro (z | ⟨i, h1, h2, h3, h4⟩)
        · exact absurd (ih.mpr (Or.inl z)) h
        · by_cases e : i = k + 1 + d
          · subst e
            rw [if_pos (hb.mpr h3), if_pos h4]
          · exact absurd (ih.mpr (Or.inr ⟨i, h1, by omega, h3, h4⟩)) h
theorem prN_s (S : Nat → Nat) (T : t_T2) (d : Nat) : prN S T (d + 1) = prN S T d ||| (if prI S T (prN S T d) (tn T - 1 - d) d = true then 2 ^ (tn T - 1 - d) else 0) := rfl
theorem prN_bit (S : Nat → Nat) (T : t_T2) : ∀ d, d ≤ tn T → ∀ k, (prN S T d).testBit k = true ↔ (tn T - d ≤ k ∧ k < tn T ∧ (tp T k = tc T ∨ ∃ i, k < i ∧ i < tn T ∧ (prN S T d).testBit i = true ∧ v_rests S T i k = true))
  | 0, _, k => by
    show (0 : Nat).testBit k = true ↔ _
    rw [Nat.zero_testBit]
    constructor
    · intro z; cases z
    · rintro ⟨h1, h2, _⟩; omega
  | d + 1, hd, k => by
    have ih := prN_bit S T d (by omega)
    have hn : tn T - 1 - d + 1 + d = tn T := by omega
    have hI := prI_bit S T (prN S T d) (tn T - 1 - d) d
    rw [hn] at hI
    have hsame : ∀ i, tn T - 1 - d < i → ((prN S T (d + 1)).testBit i = (prN S T d).testBit i) := by
      intro i hi
      rw [prN_s, Nat.testBit_or]
      have : (if prI S T (prN S T d) (tn T - 1 - d) d = true then 2 ^ (tn T - 1 - d) else 0).testBit i = false := by
        split
        · rw [pow_bit]; simp; omega
        · exact Nat.zero_testBit _
      rw [this, Bool.or_false]
    have hex : ∀ k, tn T - 1 - d ≤ k → ((∃ i, k < i ∧ i < tn T ∧ (prN S T (d + 1)).testBit i = true ∧ v_rests S T i k = true) ↔ (∃ i, k < i ∧ i < tn T ∧ (prN S T d).testBit i = true ∧ v_rests S T i k = true)) := by
      intro k hk
      constructor
      · rintro ⟨i, h1, h2, h3, h4⟩; exact ⟨i, h1, h2, by rw [← hsame i (by omega)]; exact h3, h4⟩
      · rintro ⟨i, h1, h2, h3, h4⟩; exact ⟨i, h1, h2, by rw [hsame i (by omega)]; exact h3, h4⟩
    rcases (by omega : tn T - 1 - d < k ∨ k = tn T - 1 - d ∨ k < tn T - 1 - d) with hk | hk | hk
    · rw [hsame k hk, ih k, hex k (by omega)]
      constructor
      · rintro ⟨h1, h2, h3⟩; exact ⟨by omega, h2, h3⟩
      · rintro ⟨h1, h2, h3⟩; exact ⟨by omega, h2, h3⟩
    · rw [hex k (by omega)]
      have hf : (prN S T d).testBit k = false := by
        cases e : (prN S T d).testBit k
        · rfl
        · have := (ih k).mp e; omega
      have hv : (prN S T (d + 1)).testBit k = prI S T (prN S T d) (tn T - 1 - d) d := by
        rw [prN_s, Nat.testBit_or, hf]
        by_cases h : prI S T (prN S T d) (tn T - 1 - d) d = true
        · rw [if_pos h, pow_bit]; simp [hk, h]
        · rw [if_neg h, Nat.zero_testBit]; simp [h]
      rw [hv, hI, hk]
      constructor
      · intro z; exact ⟨by omega, by omega, z⟩
      · rintro ⟨_, _, z⟩; exact z
    · have hf : (prN S T (d + 1)).testBit k = false := by
        rw [prN_s, Nat.testBit_or]
        have h1 : (prN S T d).testBit k = false := by
          cases e : (prN S T d).testBit k
          · rfl
          · have := (ih k).mp e; omega
        have h2 : (if prI S T (prN S T d) (tn T - 1 - d) d = true then 2 ^ (tn T - 1 - d) else 0).testBit k = false := by
          split
          · rw [pow_bit]; simp; omega
          · exact Nat.zero_testBit _
        rw [h1, h2]; rfl
      rw [hf]
      constructor
      · intro z; cases z
      · rintro ⟨h1, h2, _⟩; omega
theorem gok.t0 {S : Nat → Nat} {T : t_T2} (m : Nat) : gok T (tn T) (sfN T m (tn T)) 0 := ⟨by omega, sfN_lt T m _, Nat.two_pow_pos _, Nat.and_zero _⟩
theorem gth_prT {S : Nat → Nat} {T : t_T2} (hk : okT T) (hc : ¬ tc T = 6) (h6 : ∀ k, k < tn T → tp T k < 6) : gth S T (tn T) (sfN T (2 ^ tc T) (tn T)) 0 = prT S T := by
  have h36 : tn T ≤ 36 := by have := hk.1; omega
  have hc6 : tc T < 6 := by have := hk.2.2; omega
  have g0 := gok.t0 (S := S) (T := T) (2 ^ tc T)
  have hI : ∀ j, (sfN T (2 ^ tc T) (tn T)).testBit j = true ↔ (j < tn T ∧ tp T j = tc T) := by
    intro j
    rw [sfN_bit, Bool.and_eq_true, decide_eq_true_eq, decide_eq_true_eq]
    constructor
    · rintro ⟨h1, h2⟩
      rw [bit_pow _ hc6 _ (h6 j h1)] at h2
      refine ⟨h1, ?_⟩
      by_cases e : tp T j = tc T
      · exact e
      · rw [if_neg e] at h2; cases h2
    · rintro ⟨h1, h2⟩
      exact ⟨h1, by rw [bit_pow _ hc6 _ (h6 j h1), if_pos h2]⟩
  have hP := prN_bit S T (tn T) (Nat.le_refl _)
  unfold prT
  rw [if_neg hc]
  have hup : ∀ j, (gth S T (tn T) (sfN T (2 ^ tc T) (tn T)) 0).testBit j = true → (prN S T (tn T)).testBit j = true := by
    refine gth_up h36 (P := fun j => (prN S T (tn T)).testBit j = true) (fun i k hi hk => ?_) _ _ _ g0 (fun j hj => ?_)
    · have hi2 := ((hP i).mp hi).2.1
      unfold rsN at hk
      rw [rsK_bit, Bool.and_eq_true, decide_eq_true_eq] at hk
      exact (hP k).mpr ⟨by omega, by omega, Or.inr ⟨i, hk.1, hi2, hi, hk.2⟩⟩
    · rcases hj with hj | hj
      · obtain ⟨h1, h2⟩ := (hI j).mp hj
        exact (hP j).mpr ⟨by omega, h1, Or.inl h2⟩
      · rw [Nat.zero_testBit] at hj; cases hj
  have hlo : ∀ d j, tn T ≤ j + d → (prN S T (tn T)).testBit j = true → (gth S T (tn T) (sfN T (2 ^ tc T) (tn T)) 0).testBit j = true := by
    intro d
    induction d with
    | zero =>
      intro j hj h
      have := ((hP j).mp h).2.1
      omega
    | succ d ih =>
      intro j hj h
      obtain ⟨_, h1, h2 | ⟨i, h2, h3, h4, h5⟩⟩ := (hP j).mp h
      · exact gth_lo h36 _ _ _ g0 j (Or.inl ((hI j).mpr ⟨h1, h2⟩))
      · refine gth_cl h36 _ _ _ g0 (fun i k hi _ => ?_) i j (ih i (by omega) h4) ?_
        · rw [Nat.zero_testBit] at hi; cases hi
        · unfold rsN; rw [rsK_bit, h5]; simp [h2]
  apply Nat.eq_of_testBit_eq
  intro j
  cases e : (prN S T (tn T)).testBit j
  · cases e2 : (gth S T (tn T) (sfN T (2 ^ tc T) (tn T)) 0).testBit j
    · rfl
    · rw [hup j e2] at e; cases e
  · exact hlo (tn T) j (by omega) e
