/-! the state keeps its bounds -/
set_option maxRecDepth 100000
theorem wfA.packs {S S' : Nat → Nat} (hW : wfA S) (h0 : S 0 ≤ S' 0) (h06 : S' 0 ≤ 6) (hp : ∀ p, p < 6 → v_of S' p 0 ≤ 5 ∧ v_of S' p 1 ≤ 1 ∧ ∀ v, v < 5 → v_of S' p (2 + v) < 1000) (hr : ∀ j, 45 ≤ j → S' j = S j) (h1 : S' 1 = S 1) (h2 : S' 2 = S 2) : wfA S' := by
  obtain ⟨⟨⟨b0, b1, b2, b3, b4, b5⟩, w1, w2, w3⟩, hL⟩ := hW
  have er : ∀ q w, v_ofRule S' q w = v_ofRule S q w := fun q w => hr _ (by omega)
  have ea : ∀ q w, v_asm S' q w = v_asm S q w := fun q w => hr _ (by omega)
  have el : ∀ r q, lsd S' r q = lsd S r q := fun r q => by unfold lsd; rw [er]
  refine ⟨⟨⟨h06, by rw [h1]; exact b1, by rw [h2]; exact b2, hp, fun q hq => ?_, fun a ha => ?_⟩, fun r hr => ?_, fun a ha => ?_, fun a b hab hb => ?_⟩, fun r hr hk => ?_⟩
  · simp only [er]; exact b4 q hq
  · simp only [ea]; exact b5 a ha
  · rw [h1] at hr
    simp only [er]
    have := w1 r hr
    omega
  · rw [h2] at ha
    rw [ea]
    have := w2 a ha
    omega
  · rw [h2] at hb
    simp only [ea]; exact w3 a b hab hb
  · rw [h1] at hr
    rw [er] at hk
    simp only [el]
    obtain ⟨⟨q, h3, h4⟩, h5⟩ := hL r hr hk
    exact ⟨⟨q, by omega, h4⟩, fun q hq => h5 q (by omega)⟩
theorem wfA.less {S S' : Nat → Nat} (hW : wfA S) (h : ∀ j, j ≠ 1 → j ≠ 2 → S' j = S j) (h1 : S' 1 ≤ S 1) (h2 : S' 2 ≤ S 2) : wfA S' := by
  obtain ⟨⟨⟨b0, b1, b2, b3, b4, b5⟩, w1, w2, w3⟩, hL⟩ := hW
  have e0 : S' 0 = S 0 := h 0 (by decide) (by decide)
  have ev : ∀ q w, v_of S' q w = v_of S q w := fun q w => h _ (by omega) (by omega)
  have er : ∀ q w, v_ofRule S' q w = v_ofRule S q w := fun q w => h _ (by omega) (by omega)
  have ea : ∀ q w, v_asm S' q w = v_asm S q w := fun q w => h _ (by omega) (by omega)
  have el : ∀ r q, lsd S' r q = lsd S r q := fun r q => by unfold lsd; rw [er]
  refine ⟨⟨⟨by rw [e0]; exact b0, by omega, by omega, fun p hp => ?_, fun q hq => ?_, fun a ha => ?_⟩, fun r hr => ?_, fun a ha => ?_, fun a b hab hb => ?_⟩, fun r hr hk => ?_⟩
  · simp only [ev]; exact b3 p hp
  · simp only [er]; exact b4 q hq
  · simp only [ea]; exact b5 a ha
  · simp only [er, e0]; exact w1 r (by omega)
  · rw [ea, e0]; exact w2 a (by omega)
  · simp only [ea]; exact w3 a b hab (by omega)
  · rw [er] at hk
    simp only [el, e0]; exact hL r (by omega) hk
theorem packS_o {S : Nat → Nat} : ∀ {k j : Nat}, (j < 3 + 7 * S 0 ∨ 3 + 7 * S 0 + k ≤ j) → packS S k j = S j
  | 0, _, _ => rfl
  | k + 1, j, h => by rw [packS, up2_o (by omega)]; exact packS_o (by omega)
theorem packS_i {S : Nat → Nat} : ∀ {k j : Nat}, 3 + 7 * S 0 ≤ j → j < 3 + 7 * S 0 + k → packS S k j = 0
  | 0, _, h1, h2 => absurd h2 (by omega)
  | k + 1, j, h1, h2 => by
    rw [packS]
    by_cases e : j = 3 + 7 * S 0 + k
    · rw [e]; exact up2_s
    · rw [up2_o e]; exact packS_i h1 (by omega)
def newS (S : Nat → Nat) : Nat → Nat := up2 (packS S 7) 0 (S 0 + 1)
theorem newS_v {S : Nat → Nat} {p w : Nat} (hw : w < 7) : v_of (newS S) p w = if p = S 0 then 0 else v_of S p w := by
  unfold v_of newS
  rw [up2_o (by omega)]
  by_cases e : p = S 0
  · rw [if_pos e, e]; exact packS_i (by omega) (by omega)
  · rw [if_neg e]; exact packS_o (by omega)
theorem newS_r {S : Nat → Nat} (h : S 0 < 6) {j : Nat} (hj : 45 ≤ j) : newS S j = S j := by
  unfold newS
  rw [up2_o (by omega)]
  exact packS_o (by omega)
theorem wfA.new {S : Nat → Nat} (hW : wfA S) (h : S 0 < 6) : wfA (newS S) := by
  have b3 := hW.1.1.2.2.2.1
  refine hW.packs (by unfold newS; rw [up2_s]; omega) (by unfold newS; rw [up2_s]; omega) (fun p hp => ?_) (fun j hj => newS_r h hj) ?_ ?_
  · rw [newS_v (by decide), newS_v (by decide)]
    by_cases e : p = S 0
    · rw [if_pos e, if_pos e]
      exact ⟨by omega, by omega, fun v hv => by rw [newS_v (by omega), if_pos e]; decide⟩
    · rw [if_neg e, if_neg e]
      exact ⟨(b3 p hp).1, (b3 p hp).2.1, fun v hv => by rw [newS_v (by omega), if_neg e]; exact (b3 p hp).2.2 v hv⟩
  · unfold newS; rw [up2_o (by decide)]; exact packS_o (by omega)
  · unfold newS; rw [up2_o (by decide)]; exact packS_o (by omega)
theorem verS_v {S : Nat → Nat} {p c q w : Nat} (h5 : v_of S p 0 < 5) (hw : w < 7) : v_of (verS S p c) q w = if q = p then (if w = 0 then v_of S p 0 + 1 else if w = 2 + v_of S p 0 then c else v_of S p w) else v_of S q w := by
  have hv : ∀ q w, v_of S q w = S ((3 + (7 * q)) + w) := fun _ _ => rfl
  by_cases e : q = p
  · subst e
    rw [if_pos rfl]
    unfold verS
    by_cases e0 : w = 0
    · rw [if_pos e0, e0]; exact up2_s
    · rw [if_neg e0]
      by_cases e1 : w = 2 + v_of S q 0
      · rw [if_pos e1]
        show up2 _ _ _ ((3 + (7 * q)) + w) = c
        rw [up2_o (by omega), show (3 + (7 * q)) + w = ((3 + (7 * q)) + 2) + v_of S q 0 by omega]
        exact up2_s
      · rw [if_neg e1]
        show up2 _ _ _ ((3 + (7 * q)) + w) = _
        rw [up2_o (by omega), up2_o (by omega)]
        rfl
  · rw [if_neg e]
    unfold verS
    show up2 _ _ _ ((3 + (7 * q)) + w) = _
    rw [up2_o (by omega), up2_o (by omega)]
    rfl
theorem verS_o {S : Nat → Nat} {p c j : Nat} (h5 : v_of S p 0 < 5) (h : j < 3 + 7 * p ∨ 3 + 7 * p + 7 ≤ j) : verS S p c j = S j := by
  unfold verS
  rw [up2_o (by omega), up2_o (by omega)]
theorem wfA.ver {S : Nat → Nat} (hW : wfA S) {p c : Nat} (hp : p < S 0) (h5 : v_of S p 0 < 5) (hc : c < 1000) : wfA (verS S p c) := by
  have b3 := hW.1.1.2.2.2.1
  have h6 := hW.1.1.p
  refine hW.packs (by rw [verS_o h5 (by omega)]; omega) (by rw [verS_o h5 (by omega)]; exact h6) (fun q hq => ?_) (fun j hj => verS_o h5 (by omega)) (verS_o h5 (by omega)) (verS_o h5 (by omega))
  rw [verS_v h5 (by decide), verS_v h5 (by decide)]
  by_cases e : q = p
  · rw [if_pos e, if_pos e, if_pos rfl, if_neg (by decide)]
    refine ⟨by omega, ?_, fun v hv => ?_⟩
    · rw [if_neg (by omega)]; exact (b3 p (by omega)).2.1
    · rw [verS_v h5 (by omega), if_pos e, if_neg (by omega)]
      split
      · exact hc
      · exact (b3 p (by omega)).2.2 v hv
  · rw [if_neg e, if_neg e]
    exact ⟨(b3 q hq).1, (b3 q hq).2.1, fun v hv => by rw [verS_v h5 (by omega), if_neg e]; exact (b3 q hq).2.2 v hv⟩
def opnS (S : Nat → Nat) (p b : Nat) : Nat → Nat := up2 S ((3 + (7 * p)) + 1) b
theorem opnS_v {S : Nat → Nat} {p b q w : Nat} (hw : w < 7) : v_of (opnS S p b) q w = if q = p ∧ w = 1 then b else v_of S q w := by
  unfold v_of opnS
  by_cases e : q = p ∧ w = 1
  · rw [if_pos e, e.1, e.2]; exact up2_s
  · rw [if_neg e]; exact up2_o (by omega)
theorem wfA.opn {S : Nat → Nat} (hW : wfA S) {p b : Nat} (hp : p < S 0) (hb : b ≤ 1) : wfA (opnS S p b) := by
  have b3 := hW.1.1.2.2.2.1
  have h6 := hW.1.1.p
  have ho : ∀ j, j ≠ (3 + (7 * p)) + 1 → opnS S p b j = S j := fun j hj => up2_o hj
  refine hW.packs (by rw [ho 0 (by omega)]; omega) (by rw [ho 0 (by omega)]; exact h6) (fun q hq => ?_) (fun j hj => ho j (by omega)) (ho 1 (by omega)) (ho 2 (by omega))
  rw [opnS_v (by decide), opnS_v (by decide), if_neg (by omega)]
  refine ⟨(b3 q hq).1, ?_, fun v hv => by rw [opnS_v (by omega), if_neg (by omega)]; exact (b3 q hq).2.2 v hv⟩
  split
  · exact hb
  · exact (b3 q hq).2.1
theorem wfA.asm {S : Nat → Nat} (hW : wfA S) {p v : Nat} (hp : p < S 0) (hv : v ≤ 5) (h : asdN S p (S 2) = false) : wfA (asmS S p v) := by
  refine ⟨hW.1.asm hp hv h, fun r hr hk => ?_⟩
  have e0 : asmS S p v 0 = S 0 := asmS_o (by decide) (by omega)
  have e1 : asmS S p v 1 = S 1 := asmS_o (by decide) (by omega)
  rw [e1] at hr
  have hb := hW.1.1.r
  have er : ∀ w, w < 6 → v_ofRule (asmS S p v) r w = v_ofRule S r w := fun w hw => asmS_o (by omega) (by omega)
  have el : ∀ q, lsd (asmS S p v) r q = lsd S r q := fun q => by unfold lsd; rw [er 5 (by decide)]
  rw [er 0 (by decide)] at hk
  simp only [el, e0]
  exact hW.2 r hr hk
/-! sets of assumptions as Nats -/
theorem clr_eq : ∀ n, n < 64 → ∀ a, a < 6 → nI n &&& unv (2 ^ a) = nI (n &&& (63 - 2 ^ a)) := by decide +kernel
theorem and63 : ∀ n, n < 64 → nI n &&& nI 63 = nI n := by decide +kernel
theorem bit_nI : ∀ n, n < 64 → ∀ a, a < 6 → ((nI n >>> (nI a &&& 31)) &&& nI 1 = nI 1 ↔ n / 2 ^ a % 2 = 1) := by decide +kernel
theorem ex_bit : ∀ (k m : Nat), m < 2 ^ k → m ≠ 0 → ∃ a, a < k ∧ m / 2 ^ a % 2 = 1
  | 0, m, h, h0 => absurd (show m = 0 by omega) h0
  | k + 1, m, h, h0 => by
    by_cases e : m % 2 = 1
    · exact ⟨0, by omega, by simpa using e⟩
    · obtain ⟨a, h1, h2⟩ := ex_bit k (m / 2) (by rw [Nat.pow_succ] at h; omega) (by omega)
      exact ⟨a + 1, by omega, by rw [Nat.pow_succ, Nat.mul_comm, ← Nat.div_div_eq_div_mul]; exact h2⟩
def blU (S : Nat → Nat) : Nat → Nat → Nat → Nat
  | 0, _, n => n
  | d + 1, a, n => blU S d (a + 1) (if tc (goT S (nI (n &&& (63 - 2 ^ a)))) = 6 then n else n &&& (63 - 2 ^ a))
theorem blU_le (S : Nat → Nat) : ∀ (d a n : Nat), blU S d a n ≤ n
  | 0, _, n => Nat.le_refl _
  | d + 1, a, n => by
    rw [blU]
    refine Nat.le_trans (blU_le S d (a + 1) _) ?_
    split
    · exact Nat.le_refl _
    · exact Nat.and_le_left
theorem blmN_U (S : Nat → Nat) : ∀ (d a n : Nat), n < 64 → a + d ≤ 6 → blmN S d a (nI n) = nI (blU S d a n)
  | 0, _, _, _, _ => rfl
  | d + 1, a, n, hn, ha => by
    rw [blmN, blU, clr_eq n hn a (by omega)]
    by_cases e : tc (goT S (nI (n &&& (63 - 2 ^ a)))) = 6
    · rw [if_pos e, if_pos e, and63 n hn]; exact blmN_U S d (a + 1) n hn (by omega)
    · rw [if_neg e, if_neg e, clr_eq n hn a (by omega)]
      exact blmN_U S d (a + 1) _ (Nat.lt_of_le_of_lt Nat.and_le_left hn) (by omega)
def blu (S : Nat → Nat) : Nat := blU S (S 2) 0 (2 ^ S 2 - 1)
theorem pow64 {k : Nat} (h : k ≤ 6) : 2 ^ k ≤ 64 := show 2 ^ k ≤ 2 ^ 6 from Nat.pow_le_pow_right (by decide) h
theorem blu_lt {S : Nat → Nat} : blu S < 2 ^ S 2 := by
  have h := blU_le S (S 2) 0 (2 ^ S 2 - 1)
  have := Nat.two_pow_pos (S 2)
  unfold blu
  omega
theorem blm_u {S : Nat → Nat} (hW : wfB S) : blm S = nI (blu S) := by
  have := pow64 hW.a
  have := Nat.two_pow_pos (S 2)
  exact blmN_U S _ _ _ (by omega) (by have := hW.a; omega)
/-! what is learned: digits to the base 7 -/
theorem dig_add {L p d : Nat} (h0 : L / 7 ^ p % 7 = 0) (hd : d < 7) (q : Nat) : (L + d * 7 ^ p) / 7 ^ q % 7 = if q = p then d else L / 7 ^ q % 7 := by
  have hpos : ∀ k, 0 < 7 ^ k := fun k => Nat.pow_pos (by decide)
  by_cases e : q = p
  · subst e
    rw [if_pos rfl, Nat.add_mul_div_right _ _ (hpos q)]
    omega
  · rw [if_neg e]
    rcases Nat.lt_or_ge q p with h | h
    · obtain ⟨k, rfl⟩ : ∃ k, p = q + 1 + k := ⟨p - q - 1, by omega⟩
      rw [show d * 7 ^ (q + 1 + k) = (7 * (d * 7 ^ k)) * 7 ^ q by rw [Nat.pow_add, Nat.pow_succ]; simp only [Nat.mul_assoc, Nat.mul_comm, Nat.mul_left_comm], Nat.add_mul_div_right _ _ (hpos q)]
      omega
    · obtain ⟨k, rfl⟩ : ∃ k, q = p + 1 + k := ⟨q - p - 1, by omega⟩
      have e1 : ∀ X : Nat, X / 7 ^ (p + 1 + k) = X / 7 ^ p / 7 / 7 ^ k := fun X => by rw [Nat.pow_add, Nat.pow_succ, Nat.div_div_eq_div_mul, Nat.div_div_eq_div_mul, Nat.mul_assoc]
      rw [e1, e1, Nat.add_mul_div_right _ _ (hpos p)]
      rw [show (L / 7 ^ p + d) / 7 = L / 7 ^ p / 7 by omega]
/-- the digit of a package, by assumptions up to n that a set tells -/
def toldN (S : Nat → Nat) (w : Int32) (q : Nat) : Nat → Nat
  | 0 => 0
  | a + 1 => if (w >>> (nI a &&& 31)) &&& nI 1 = nI 1 then (if v_asm S a 0 = q then v_asm S a 1 + 1 else toldN S w q a) else toldN S w q a
theorem toldN_0 {S : Nat → Nat} {w : Int32} {q : Nat} : ∀ {n : Nat}, (∀ a, a < n → v_asm S a 0 ≠ q) → toldN S w q n = 0
  | 0, _ => rfl
  | n + 1, h => by
    rw [toldN]
    by_cases b : (w >>> (nI n &&& 31)) &&& nI 1 = nI 1
    · rw [if_pos b, if_neg (h n (by omega))]; exact toldN_0 fun a ha => h a (by omega)
    · rw [if_neg b]; exact toldN_0 fun a ha => h a (by omega)
theorem lrn_dig {S : Nat → Nat} (hW : wfS S) {w : Int32} : ∀ {n : Nat}, n ≤ S 2 → ∀ q, (lrn S w n).1 / 7 ^ q % 7 = toldN S w q n
  | 0, _, q => by simp [lrn, toldN]
  | n + 1, h, q => by
    have ih := lrn_dig hW (w := w) (n := n) (by omega)
    have h6 := hW.1.a
    have h1 := hW.1.a1 (a := n) (by omega)
    rw [lrn, toldN]
    by_cases c : (w >>> (nI n &&& 31)) &&& nI 1 = nI 1
    · rw [if_pos c, if_pos c]
      show ((lrn S w n).1 + (v_asm S n 1 + 1) * 7 ^ v_asm S n 0) / 7 ^ q % 7 = _
      rw [dig_add (by rw [ih]; exact toldN_0 fun a ha => hW.2.2.2 a n ha (by omega)) (by omega) q, ih]
      by_cases e : q = v_asm S n 0
      · rw [if_pos e, if_pos e.symm]
      · rw [if_neg e, if_neg (fun z => e z.symm)]
    · rw [if_neg c, if_neg c]; exact ih q
theorem dig_lt : ∀ (k L : Nat), (∀ q, k ≤ q → L / 7 ^ q % 7 = 0) → (∃ m, L < 7 ^ m) → L < 7 ^ k := by
  intro k L h ⟨m, hm⟩
  rcases Nat.lt_or_ge k m with hk | hk
  · obtain ⟨d, rfl⟩ : ∃ d, m = k + d := ⟨m - k, by omega⟩
    clear hk
    induction d with
    | zero => exact hm
    | succ d ih =>
      refine ih ?_
      have h2 := h (k + d) (by omega)
      have h3 : L / 7 ^ (k + d) < 7 := (Nat.div_lt_iff_lt_mul (Nat.pow_pos (by decide))).mpr (by rw [Nat.mul_comm, ← Nat.pow_succ]; exact hm)
      have h4 : L / 7 ^ (k + d) = 0 := by rw [Nat.mod_eq_of_lt h3] at h2; exact h2
      rcases Nat.lt_or_ge L (7 ^ (k + d)) with z | z
      · exact z
      · exact absurd h4 (Nat.ne_of_gt (Nat.div_pos z (Nat.pow_pos (by decide))))
  · exact Nat.lt_of_lt_of_le hm (Nat.pow_le_pow_right (by decide) hk)
theorem lrn_keeps {S : Nat → Nat} {w : Int32} : ∀ n, (lrn S w n).2.1 ≤ (lrn S w n).2.2 ∧ (lrn S w n).2.2 ≤ n
  | 0 => ⟨Nat.le_refl _, Nat.le_refl _⟩
  | n + 1 => by
    have ih := lrn_keeps (S := S) (w := w) n
    rw [lrn]
    split
    · exact ⟨by show (lrn S w n).2.2 ≤ n + 1; omega, Nat.le_refl _⟩
    · omega
theorem toldN_t {S : Nat → Nat} {w : Int32} {a : Nat} (hd : ∀ i j, i < j → j < S 2 → v_asm S i 0 ≠ v_asm S j 0) (c : (w >>> (nI a &&& 31)) &&& nI 1 = nI 1) : ∀ {n : Nat}, a < n → n ≤ S 2 → toldN S w (v_asm S a 0) n = v_asm S a 1 + 1
  | 0, h, _ => absurd h (by omega)
  | n + 1, h, hn => by
    rw [toldN]
    by_cases e : a = n
    · subst e; rw [if_pos c, if_pos rfl]
    · have ne : ¬ v_asm S n 0 = v_asm S a 0 := fun z => hd a n (by omega) (by omega) z.symm
      by_cases b : (w >>> (nI n &&& 31)) &&& nI 1 = nI 1
      · rw [if_pos b, if_neg ne]; exact toldN_t hd c (by omega) (by omega)
      · rw [if_neg b]; exact toldN_t hd c (by omega) (by omega)
theorem wfA.lea {S : Nat → Nat} (hW : wfA S) (h30 : S 1 < 30) (hn : ¬ lrnW S = 0) : wfA (lrnS S (lrnW S)) := by
  have hw : lrnW S = nI (blu S) := by
    unfold lrnW at hn ⊢
    by_cases e : tc (gA S) = 6
    · rw [if_pos e] at hn; exact absurd rfl hn
    · rw [if_neg e]; exact blm_u hW.1.1
  have h2 := hW.1.1.a
  have h0 := hW.1.1.p
  have hb := blu_lt (S := S)
  have h64 := pow64 h2
  have hz : blu S ≠ 0 := fun z => hn (by rw [hw, z]; rfl)
  obtain ⟨a, ha, ha1⟩ := ex_bit _ _ hb hz
  have hbit := (bit_nI _ (by omega : blu S < 64) a (by omega)).mpr ha1
  rw [← hw] at hbit
  have dg := lrn_dig hW.1 (w := lrnW S) (n := S 2) (Nat.le_refl _)
  have hbig : ∀ q, S 0 ≤ q → (lrn S (lrnW S) (S 2)).1 / 7 ^ q % 7 = 0 := fun q hq => by
    rw [dg q]
    exact toldN_0 fun a ha => by have := hW.1.2.2.1 a ha; omega
  have hlt : (lrn S (lrnW S) (S 2)).1 < 117649 := dig_lt 6 _ (fun q hq => hbig q (by omega)) ⟨(lrn S (lrnW S) (S 2)).1, Nat.lt_pow_self (by decide)⟩
  have hS0 : 0 < S 0 := by have := hW.1.2.2.1 a ha; omega
  have hA : wfA (addS S 3 0 0 0 0 (lrn S (lrnW S) (S 2)).1) := ⟨hW.1.add h30 (by decide) hS0 (by decide) hS0 (by decide) hlt, hW.2.add (fun _ => ⟨⟨v_asm S a 0, hW.1.2.2.1 a ha, by rw [dg, toldN_t hW.1.2.2.2 hbit ha (Nat.le_refl _)]; omega⟩, hbig⟩)⟩
  have hk := lrn_keeps (S := S) (w := lrnW S) (S 2)
  refine hA.less (fun j _ h => up2_o h) (by unfold lrnS; rw [up2_o (by decide)]; exact Nat.le_refl _) ?_
  unfold lrnS
  rw [up2_s, addS_o (by decide) (by omega)]
  omega
/-! the whole lasting state -/
def okZ (z : t_Z) : Prop := wfA (zS z) ∧ (zb z = true → wfA (zV z)) ∧ zk z ≤ 8 ∧ (∀ i, i < zk z → wfA (zH z i)) ∧ zl z ≤ 60 ∧ zw z ≤ 120 ∧ (∀ j, j < zl z → 33 ≤ zx z j ∧ zx z j < 127) ∧ ∀ j, j < zw z → zr z j < 128
theorem okZ.put {z : t_Z} {S' : Nat → Nat} (h : okZ z) (hS : wfA S') : okZ (zput z (zS z) S') := by
  obtain ⟨h0, h1, h2, h3, h4, h5, h6, h7⟩ := h
  refine ⟨hS, h1, ?_, fun i hi => ?_, h4, h5, h6, h7⟩
  · show pk8 (zk z) ≤ 8
    unfold pk8; split <;> omega
  · have hi : i < pk8 (zk z) := hi
    show wfA (pushH (zk z) (zH z) (zS z) i)
    unfold pk8 at hi
    unfold pushH
    by_cases e : zk z = 8
    · rw [if_pos e] at hi ⊢
      by_cases e2 : i = 7
      · rw [if_pos e2]; exact h0
      · rw [if_neg e2]; exact h3 (i + 1) (by omega)
    · rw [if_neg e] at hi ⊢
      by_cases e2 : i = zk z
      · rw [if_pos e2]; exact h0
      · rw [if_neg e2]; exact h3 i (by omega)
theorem okZ.pack {z : t_Z} (h : okZ z) : okZ (m_pack z (zS z)).2 := by
  have := h.1.1.1.p
  unfold m_pack
  split
  · exact h
  · exact h.put (h.1.new (by omega))
theorem cod3_lt {a b c : Int32} (ha : v_in a (nI 0) (nI 9) = true) (hb : v_in b (nI 0) (nI 9) = true) (hc : v_in c (nI 0) (nI 9) = true) : cod3 a b c < 1000 := by
  have h1 := (v_in_9 ha).1
  have h2 := (v_in_9 hb).1
  have h3 := (v_in_9 hc).1
  unfold cod3
  omega
theorem okZ.version {z : t_Z} (h : okZ z) (p a b c : Int32) : okZ (m_version z (zS z) p a b c).2 := by
  have hW := h.1.1.1
  unfold m_version
  split
  · rename_i c1
    split
    · rename_i c2
      split
      · rename_i c3
        split
        · rename_i c4
          split
          · exact h
          · split
            · exact h
            · have h1 := (v_isPack_n hW c1).1
              have h2 := hW.nv (p := p.toNatClampNeg) (by have := hW.p; omega)
              exact h.put (h.1.ver h1 (by omega) (cod3_lt c2 c3 c4))
        · exact h
      · exact h
    · exact h
  · exact h
theorem okZ.open_ {z : t_Z} (h : okZ z) (p : Int32) (b : Bool) : okZ (m_open z (zS z) p b).2 := by
  have hW := h.1.1.1
  unfold m_open
  split
  · rename_i c1
    exact h.put (h.1.opn (v_isPack_n hW c1).1 (by split <;> omega))
  · exact h
theorem okZ.done {z : t_Z} (h : okZ z) {x : Int32 × (Nat → Nat)} (hx : wfA x.2) : okZ (m_done z (zS z) x).2 := by
  unfold m_done
  split
  · exact h.put hx
  · exact h
theorem okZ.drop {z : t_Z} (h : okZ z) : okZ (m_drop z (zS z)).2 := by
  unfold m_drop
  split
  · exact h
  · exact h.put (h.1.less (fun j h1 h2 => up2_o h1) (by rw [up2_s]; omega) (by rw [up2_o (by decide)]; exact Nat.le_refl _))
theorem okZ.retract {z : t_Z} (h : okZ z) : okZ (m_retract z (zS z)).2 := by
  unfold m_retract
  split
  · exact h
  · exact h.put (h.1.less (fun j h1 h2 => up2_o h2) (by rw [up2_o (by decide)]; exact Nat.le_refl _) (by rw [up2_s]; omega))
theorem okZ.assume {z : t_Z} (h : okZ z) (p v : Int32) : okZ (m_assume z (zS z) p v).2 := by
  have hW := h.1.1.1
  unfold m_assume
  split
  · rename_i c1
    split
    · rename_i c2
      split
      · split
        · exact h
        · split
          · exact h
          · rename_i c3
            exact h.put (h.1.asm (v_isPack_n hW c1).1 (v_isState_n hW c2).1 (by simpa using c3))
      · exact h
    · exact h
  · exact h
theorem okZ.learn {z : t_Z} (h : okZ z) : okZ (m_learn z (zS z)).2 := by
  have h3 := h.1.1.1.r
  unfold m_learn
  split
  · exact h
  · split
    · exact h
    · rename_i c1 c2
      exact h.put (h.1.lea (by omega) c1)
theorem okZ.undo {z : t_Z} (h : okZ z) : okZ (m_undo z).2 := by
  obtain ⟨h0, h1, h2, h3, h4, h5, h6, h7⟩ := h
  unfold m_undo
  split
  · exact ⟨h0, h1, h2, h3, h4, h5, h6, h7⟩
  · exact ⟨h3 _ (by omega), h1, by show zk z - 1 ≤ 8; omega, fun i hi => h3 i (by have : i < zk z - 1 := hi; omega), h4, h5, h6, h7⟩
theorem okZ.save {z : t_Z} (h : okZ z) : okZ (m_save z (zS z)).2 := ⟨h.1, fun _ => h.1, h.2.2⟩
theorem okZ.restore {z : t_Z} (h : okZ z) : okZ (m_restore z).2 := by
  unfold m_restore
  split
  · rename_i c
    exact ⟨h.2.1 c, fun _ => h.2.1 c, Nat.zero_le _, fun i hi => absurd hi (Nat.not_lt_zero _), h.2.2.2.2⟩
  · exact h
theorem okZ.append {z : t_Z} (h : okZ z) (c : Int32) : okZ (m_append z c).2 := by
  obtain ⟨h0, h1, h2, h3, h4, h5, h6, h7⟩ := h
  unfold m_append
  split
  · rename_i c1
    split
    · exact ⟨h0, h1, h2, h3, h4, h5, h6, h7⟩
    · refine ⟨h0, h1, h2, h3, by show zl z + 1 ≤ 60; omega, h5, fun j hj => ?_, h7⟩
      have hj : j < zl z + 1 := hj
      show 33 ≤ up2 (zx z) (zl z) c.toNatClampNeg j ∧ up2 (zx z) (zl z) c.toNatClampNeg j < 127
      by_cases e : j = zl z
      · rw [e, up2_s]
        have hc := v_in_c c1
        obtain ⟨g1, g2⟩ := v_in_iff.mp c1
        rw [← hc.2] at g1
        exact ⟨(nI_leI (by decide) (by omega)).mp g1, hc.1⟩
      · rw [up2_o e]; exact h6 j (by omega)
  · exact ⟨h0, h1, h2, h3, h4, h5, h6, h7⟩
theorem wfA.doN {T : Nat → Nat} {e : Nat} : ∀ (d i : Nat) {S : Nat → Nat}, wfA S → wfA (doN T e d i S).2
  | 0, _, _, h => h
  | d + 1, i, S, h => by
    by_cases c : 0 ≤ (doR T e S i).1
    · rw [doN_s (by omega) c]; exact wfA.doN d (i + 1) (h.do1 T e i)
    · rw [doN_x (by omega) c]; exact h
theorem okZ.rd0 {z : t_Z} (h : okZ z) : okZ (zrd z) := ⟨h.1, h.2.1, h.2.2.1, h.2.2.2.1, Nat.zero_le _, h.2.2.2.2.2.1, fun j hj => absurd hj (Nat.not_lt_zero _), h.2.2.2.2.2.2.2⟩
theorem okZ.read {z : t_Z} (h : okZ z) : okZ (m_read z (zS z)).2 := by
  unfold m_read
  split
  · split
    · exact (h.rd0).put (z := zrd z) (wfA.doN _ _ h.1)
    · exact h.rd0
  · exact h.rd0
theorem all_app {P : Nat → Prop} {a b : List Nat} (h1 : ∀ c ∈ a, P c) (h2 : ∀ c ∈ b, P c) : ∀ c ∈ a ++ b, P c := fun c hc => (List.mem_append.mp hc).elim (h1 c) (h2 c)
theorem num_lt {v : Nat} (h : v < 700) : ∀ c ∈ num v, c < 128 := by
  unfold num
  refine all_app (fun c hc => ?_) (fun c hc => ?_)
  · split at hc
    · cases hc
    · rw [List.mem_singleton.mp hc]; omega
  · rw [List.mem_singleton.mp hc]; omega
theorem wd_lt {N : Nat} {g : Nat → Nat} (h : ∀ j, j < N → g j < 128) : ∀ n, n ≤ N → ∀ c ∈ wd N g n, c < 128
  | 0, _ => fun c hc => by cases hc
  | n + 1, hn => by
    rw [wd]
    exact all_app (wd_lt h n (by omega)) (fun c hc => by rw [List.mem_singleton.mp hc]; exact h n (by omega))
theorem one_lt {v : Nat} (h : v < 128) : ∀ c ∈ [v], c < 128 := fun c hc => by rw [List.mem_singleton.mp hc]; exact h
theorem ver_lt {v : Nat} (h : v < 1000) : ∀ c ∈ ver v, c < 128 := by
  unfold ver
  refine all_app (all_app (all_app (all_app (one_lt (by omega)) (one_lt (by omega))) (one_lt (by omega))) (one_lt (by omega))) ?_
  split
  · intro c hc; cases hc
  · exact all_app (one_lt (by omega)) (one_lt (by omega))
theorem repV_lt {S : Nat → Nat} (hW : wfB S) {p o : Nat} (hp : p < 6) : ∀ v, v ≤ 5 → ∀ c ∈ repV S p o v, c < 128
  | 0, _ => fun c hc => by cases hc
  | v + 1, hv => by
    rw [repV]
    refine all_app (repV_lt hW hp v (by omega)) ?_
    split
    · exact ver_lt (hW.vr hp (by omega))
    · intro c hc; cases hc
theorem rep_lt {S : Nat → Nat} (hW : wfS S) {i : Nat} (hi : i < tn (gA S)) : ∀ c ∈ rep S (gA S) i, c < 128 := by
  have h36 := (okT.ga hW.1).1
  have hw := wfT.ga hW i hi
  have h0 := hW.1.p
  have h1 := hW.1.r
  unfold rep repA
  refine all_app (all_app (all_app (all_app (all_app (all_app (all_app (all_app (all_app (fun c hc => by cases hc) (num_lt (by omega))) (wd_lt (jk_t_lt 1 (by decide)) 4 (by decide))) ?_) (num_lt (by omega))) (wd_lt (jk_t_lt 2 (by decide)) 2 (by decide))) (one_lt (by omega))) (wd_lt (jk_t_lt 3 (by decide)) 6 (by decide))) (repV_lt hW.1 (by omega) 5 (by decide))) ?_
  · split
    · intro c hc; cases hc
    · exact one_lt (by decide)
  · split
    · exact wd_lt (jk_t_lt 5 (by decide)) 5 (by decide)
    · intro c hc; cases hc
theorem rep_len {S : Nat → Nat} {T : t_T2} {i : Nat} : (rep S T i).length ≤ 120 := by
  have h1 := repA_len T i
  have h2 := repV_len S (tp T i) (tg T i) 5
  unfold rep
  rw [List.length_append, List.length_append]
  split
  · rw [wd_len]; omega
  · simp; omega
theorem okZ.report {z : t_Z} (h : okZ z) (i : Int32) : okZ (m_report z (zS z) i).2 := by
  have hW := h.1.1
  have h36 := (okT.ga hW.1).1
  unfold m_report
  split
  · rename_i c1
    obtain ⟨h0, h1, h2, h3, h4, h5, h6, h7⟩ := h
    refine ⟨h0, h1, h2, h3, h4, rep_len, h6, fun j hj => ?_⟩
    show (rep _ _ _).getD j 0 < 128
    have hj : j < (rep (zS z) (gA (zS z)) i.toNatClampNeg).length := hj
    rw [List.getD_eq_getElem?_getD, List.getElem?_eq_getElem hj]
    exact rep_lt hW (v_in_up (by omega) c1).1 _ (List.getElem_mem hj)
  · exact h
