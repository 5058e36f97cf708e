/-! THE SPECIFICATION, over the reference's row of numbers S: what both sides compute -/
set_option maxRecDepth 100000
def v_in (u a b : Int32) : Bool := if u < a then false else (if b < u then false else true)
theorem v_in_iff {u a b : Int32} : v_in u a b = true ↔ a ≤ u ∧ u ≤ b := by
  unfold v_in
  by_cases h1 : u < a
  · simp [h1, Int32.not_le.mpr h1]
  · by_cases h2 : b < u
    · simp [h1, h2, Int32.not_le.mpr h2]
    · simp [h1, h2, Int32.not_lt.mp h1, Int32.not_lt.mp h2]
def v_inN (u a b : Nat) : Bool := decide (a ≤ u ∧ u ≤ b)
theorem v_in_N {u a b : Nat} (hu : u < 2 ^ 31) (ha : a < 2 ^ 31) (hb : b < 2 ^ 31) : v_in (nI u) (nI a) (nI b) = v_inN u a b := by
  rw [Bool.eq_iff_iff, v_in_iff, nI_leI ha hu, nI_leI hu hb]
  simp [v_inN]
def v_order (v : Nat) : Nat := v / 10 * 11 + (if v % 10 = 0 then 10 else v % 10)
theorem v_order_lt {v : Nat} (h : v < 10000) : v_order v < 2 ^ 31 := by
  unfold v_order
  split <;> omega
def v_of (S : Nat → Nat) (p w : Nat) : Nat := S ((3 + (7 * p)) + w)
def v_ofRule (S : Nat → Nat) (r w : Nat) : Nat := S ((45 + (6 * r)) + w)
def v_asm (S : Nat → Nat) (a w : Nat) : Nat := S (225 + 2 * a + w)
/-- the bounds that every place keeps -/
def wfB (S : Nat → Nat) : Prop := S 0 ≤ 6 ∧ S 1 ≤ 30 ∧ S 2 ≤ 6 ∧ (∀ p, p < 6 → v_of S p 0 ≤ 5 ∧ v_of S p 1 ≤ 1 ∧ ∀ v, v < 5 → v_of S p (2 + v) < 1000) ∧
  (∀ r, r < 30 → v_ofRule S r 0 ≤ 3 ∧ v_ofRule S r 1 < 6 ∧ v_ofRule S r 2 < 5 ∧ v_ofRule S r 3 < 6 ∧ v_ofRule S r 4 < 6000 ∧ v_ofRule S r 5 < 117649) ∧ (∀ a, a < 6 → v_asm S a 0 < 6 ∧ v_asm S a 1 < 6)
section WF
variable {S : Nat → Nat} (hW : wfB S)
theorem wfB.p {S : Nat → Nat} (hW : wfB S) : S 0 ≤ 6 := hW.1
theorem wfB.r {S : Nat → Nat} (hW : wfB S) : S 1 ≤ 30 := hW.2.1
theorem wfB.a {S : Nat → Nat} (hW : wfB S) : S 2 ≤ 6 := hW.2.2.1
theorem wfB.nv {S : Nat → Nat} (hW : wfB S) {p : Nat} (hp : p < 6) : v_of S p 0 ≤ 5 := (hW.2.2.2.1 p hp).1
theorem wfB.op {S : Nat → Nat} (hW : wfB S) {p : Nat} (hp : p < 6) : v_of S p 1 ≤ 1 := (hW.2.2.2.1 p hp).2.1
theorem wfB.vr {S : Nat → Nat} (hW : wfB S) {p v : Nat} (hp : p < 6) (hv : v < 5) : v_of S p (2 + v) < 1000 := (hW.2.2.2.1 p hp).2.2 v hv
theorem wfB.rk {S : Nat → Nat} (hW : wfB S) {r : Nat} (hr : r < 30) : v_ofRule S r 0 ≤ 3 := (hW.2.2.2.2.1 r hr).1
theorem wfB.r1 {S : Nat → Nat} (hW : wfB S) {r : Nat} (hr : r < 30) : v_ofRule S r 1 < 6 := (hW.2.2.2.2.1 r hr).2.1
theorem wfB.r2 {S : Nat → Nat} (hW : wfB S) {r : Nat} (hr : r < 30) : v_ofRule S r 2 < 5 := (hW.2.2.2.2.1 r hr).2.2.1
theorem wfB.r3 {S : Nat → Nat} (hW : wfB S) {r : Nat} (hr : r < 30) : v_ofRule S r 3 < 6 := (hW.2.2.2.2.1 r hr).2.2.2.1
theorem wfB.r4 {S : Nat → Nat} (hW : wfB S) {r : Nat} (hr : r < 30) : v_ofRule S r 4 < 6000 := (hW.2.2.2.2.1 r hr).2.2.2.2.1
theorem wfB.r5 {S : Nat → Nat} (hW : wfB S) {r : Nat} (hr : r < 30) : v_ofRule S r 5 < 117649 := (hW.2.2.2.2.1 r hr).2.2.2.2.2
theorem wfB.a0 {S : Nat → Nat} (hW : wfB S) {a : Nat} (ha : a < 6) : v_asm S a 0 < 6 := (hW.2.2.2.2.2 a ha).1
theorem wfB.a1 {S : Nat → Nat} (hW : wfB S) {a : Nat} (ha : a < 6) : v_asm S a 1 < 6 := (hW.2.2.2.2.2 a ha).2
end WF
/-- 0 .. n - 1 as an Int32 that was asked by its ends -/
theorem v_in_up {u : Int32} {n : Nat} (hn : n < 2 ^ 30) (h : v_in u (nI 0) (nI n - nI 1) = true) : u.toNatClampNeg < n ∧ nI u.toNatClampNeg = u := by
  obtain ⟨h1, h2⟩ := v_in_iff.mp h
  rcases Nat.eq_zero_or_pos n with rfl | h0
  · have : u ≤ -1 := h2
    have h3 := Int32.le_iff_toInt_le.mp h1
    have h4 := Int32.le_iff_toInt_le.mp this
    rw [show (nI 0).toInt = 0 from rfl] at h3
    rw [show ((-1 : Int32)).toInt = -1 from rfl] at h4
    omega
  · rw [pk_sub h0] at h2
    have h3 : ¬ u < 0 := by rw [Int32.not_lt]; exact h1
    obtain ⟨j, hj, rfl⟩ := nI_of h3
    rw [nI_clamp hj]
    have := (nI_leI hj (by omega)).mp h2
    exact ⟨by omega, rfl⟩
theorem v_in_dn {j n : Nat} (hn : n < 2 ^ 30) (h : j < n) : v_in (nI j) (nI 0) (nI n - nI 1) = true := by
  rw [pk_sub (by omega : 1 ≤ n), v_in_N (by omega) (by decide) (by omega)]
  simp [v_inN]; omega
def v_isPack (S : Nat → Nat) (p : Int32) : Bool := v_in p (nI 0) (nI (S 0) - nI 1)
def v_isRule (S : Nat → Nat) (r : Int32) : Bool := v_in r (nI 0) (nI (S 1) - nI 1)
def v_isRange (r : Int32) : Bool := v_in r (nI 0) (nI 5999)
def v_isVersion (S : Nat → Nat) (p v : Int32) : Bool := if v_isPack S p = true then v_in v (nI 0) (nI (v_of S p.toNatClampNeg 0) - nI 1) else false
theorem v_isPack_n {S : Nat → Nat} (hW : wfB S) {p : Int32} (h : v_isPack S p = true) : p.toNatClampNeg < S 0 ∧ nI p.toNatClampNeg = p := v_in_up (Nat.lt_of_le_of_lt hW.p (by decide)) h
theorem v_isRule_n {S : Nat → Nat} (hW : wfB S) {p : Int32} (h : v_isRule S p = true) : p.toNatClampNeg < S 1 ∧ nI p.toNatClampNeg = p := v_in_up (Nat.lt_of_le_of_lt hW.r (by decide)) h
theorem v_isRange_n {p : Int32} (h : v_isRange p = true) : p.toNatClampNeg < 6000 ∧ nI p.toNatClampNeg = p := v_in_up (n := 6000) (by decide) (by unfold v_isRange at h; rw [pk_sub (by decide)]; exact h)
theorem v_isVersion_p {S : Nat → Nat} {p v : Int32} (h : v_isVersion S p v = true) : v_isPack S p = true := by
  unfold v_isVersion at h
  split at h
  · assumption
  · cases h
theorem v_isVersion_v {S : Nat → Nat} (hW : wfB S) {p v : Int32} (h : v_isVersion S p v = true) : v.toNatClampNeg < v_of S p.toNatClampNeg 0 ∧ nI v.toNatClampNeg = v := by
  have h1 := v_isVersion_p h
  have h2 := (v_isPack_n hW h1).1
  have h3 := hW.p
  unfold v_isVersion at h
  rw [if_pos h1] at h
  exact v_in_up (Nat.lt_of_le_of_lt (hW.nv (by omega)) (by decide)) h
/-- whether a version is in a range of a kind with a base, when bf: it is before the base -/
def sKd (k v b : Nat) (bf : Bool) : Bool := if k = 0 then true else if k = 1 then decide (v = b) else if k = 2 then bf else if k = 3 then !bf else if k = 4 then !bf && decide (v / 100 = b / 100) else !bf && decide (v / 10 = b / 10)
def sOp (op k v b : Nat) : Bool := decide (v % 10 = 0) || decide (op = 1) || (!decide (k = 0) && !decide (b % 10 = 0) && decide (v / 10 = b / 10))
def sIn (op v r : Nat) : Bool := sKd (r / 1000) v (r % 1000) (decide (v_order v < v_order (r % 1000))) && sOp op (r / 1000) v (r % 1000)
theorem ite_ge {a b : Nat} : (if b ≤ a then false else true) = decide (a < b) := by by_cases h : b ≤ a <;> simp [h]; omega
theorem ite_b {b : Bool} : (if b = true then true else false) = b := by cases b <;> rfl
theorem ite_tf {c : Prop} [Decidable c] : (if c then true else false) = decide c := by by_cases h : c <;> simp [h]
def covN (S : Nat → Nat) (p r : Nat) : Nat → Nat
  | 0 => 0
  | v + 1 => covN S p r v ||| (if sIn (v_of S p 1) (v_of S p (2 + v)) r = true then 2 ^ v else 0)
def cov (S : Nat → Nat) (p r : Nat) : Nat := covN S p r (v_of S p 0)
def befN (S : Nat → Nat) (p a : Nat) : Nat → Nat
  | 0 => 0
  | k + 1 => befN S p a k + (if v_order (v_of S p (2 + a)) ≤ v_order (v_of S p (2 + k)) then 0 else 1)
def bef (S : Nat → Nat) (p a : Nat) : Nat := befN S p a (v_of S p 0)
def rlsN (S : Nat → Nat) (p v : Nat) : Nat → Nat
  | 0 => 0
  | k + 1 => rlsN S p v k + (if v_inN (v_ofRule S k 0) 1 2 = true then (if v_ofRule S k 1 = p then (if v_ofRule S k 2 = v then 1 else 0) else 0) else 0)
def rls (S : Nat → Nat) (p v : Nat) : Nat := rlsN S p v (S 1)
theorem covN_lt (S : Nat → Nat) (p r : Nat) : ∀ v, covN S p r v < 2 ^ v
  | 0 => Nat.one_pos
  | v + 1 => by
    have h := covN_lt S p r v
    unfold covN
    refine Nat.or_lt_two_pow (Nat.lt_of_lt_of_le h (Nat.pow_le_pow_right (by decide) (by omega))) ?_
    split
    · exact Nat.pow_lt_pow_right (by decide) (by omega)
    · exact Nat.two_pow_pos _
theorem cov_lt {S : Nat → Nat} (hW : wfB S) {p : Nat} (hp : p < 6) (r : Nat) : cov S p r < 32 := Nat.lt_of_lt_of_le (covN_lt S p r _) (show 2 ^ v_of S p 0 ≤ 2 ^ 5 from Nat.pow_le_pow_right (by decide) (hW.nv hp))
theorem befN_le (S : Nat → Nat) (p a : Nat) : ∀ v, befN S p a v ≤ v
  | 0 => Nat.le_refl _
  | v + 1 => by
    have h := befN_le S p a v
    unfold befN
    split <;> omega
theorem bef_le {S : Nat → Nat} (hW : wfB S) {p : Nat} (hp : p < 6) (a : Nat) : bef S p a ≤ 5 := Nat.le_trans (befN_le S p a _) (hW.nv hp)
/-- a learned rule's digit: 0 none, else one more than the state -/
def lsd (S : Nat → Nat) (r p : Nat) : Nat := v_ofRule S r 5 / 7 ^ p % 7
theorem lsd_lt (S : Nat → Nat) (r p : Nat) : lsd S r p < 7 := Nat.mod_lt _ (by decide)
def lmN (S : Nat → Nat) (r : Nat) : Nat → Nat
  | 0 => 0
  | p + 1 => lmN S r p + (if lsd S r p = 0 then 0 else 1)
theorem lmN_le (S : Nat → Nat) (r : Nat) : ∀ p, lmN S r p ≤ p
  | 0 => Nat.le_refl _
  | p + 1 => by
    have h := lmN_le S r p
    unfold lmN
    split <;> omega
def latN (S : Nat → Nat) (p r : Nat) : Nat → Int32
  | 0 => -5
  | v + 1 => if cov S p r / 2 ^ v &&& 1 = 1 then (if latN S p r v = (-5) then nI v else (if bef S p v ≤ bef S p (latN S p r v).toNatClampNeg then latN S p r v else nI v)) else latN S p r v
theorem latN_in (S : Nat → Nat) (p r : Nat) : ∀ v, v < 2 ^ 30 → latN S p r v = -5 ∨ ∃ j, j < v ∧ latN S p r v = nI j
  | 0, _ => Or.inl rfl
  | v + 1, hv => by
    have h := latN_in S p r v (by omega)
    unfold latN
    split
    · split
      · exact Or.inr ⟨v, by omega, rfl⟩
      · split
        · rcases h with h | ⟨j, hj, h⟩
          · exact Or.inl h
          · exact Or.inr ⟨j, by omega, h⟩
        · exact Or.inr ⟨v, by omega, rfl⟩
    · rcases h with h | ⟨j, hj, h⟩
      · exact Or.inl h
      · exact Or.inr ⟨j, by omega, h⟩
theorem latN_n {S : Nat → Nat} {p r v : Nat} {b : Int32} (hv : v < 2 ^ 30) (hb : b = latN S p r v) (h : ¬ b = -5) : b.toNatClampNeg < v ∧ nI b.toNatClampNeg = b := by
  rcases latN_in S p r v hv with z | ⟨j, hj, z⟩
  · exact absurd (hb.trans z) h
  · rw [hb, z, nI_clamp (by omega)]
    exact ⟨hj, rfl⟩
def asdN (S : Nat → Nat) (p : Nat) : Nat → Bool
  | 0 => false
  | a + 1 => asdN S p a || decide (S (225 + 2 * a) = p)
theorem asdN_t {S : Nat → Nat} {p a : Nat} : ∀ {n : Nat}, a < n → S (225 + 2 * a) = p → asdN S p n = true
  | 0, h, _ => absurd h (Nat.not_lt_zero _)
  | n + 1, h, e => by
    unfold asdN
    rcases Nat.lt_or_ge a n with h1 | h1
    · rw [asdN_t h1 e]; rfl
    · rw [show n = a by omega]; simp [e]
def v_allStates (S : Nat → Nat) (p : Nat) : Nat := ((2 ^ v_of S p 0) - 1) ||| 32
theorem v_allStates_lt {S : Nat → Nat} (hW : wfB S) {p : Nat} (hp : p < 6) : v_allStates S p < 64 := by
  have h := hW.nv hp
  have h2 : 2 ^ v_of S p 0 ≤ 2 ^ 5 := Nat.pow_le_pow_right (by decide) h
  exact Nat.or_lt_two_pow (n := 6) (by omega) (by decide)
theorem pow_lt31 {k : Nat} (h : k < 31) : 2 ^ k < 2 ^ 31 := Nat.pow_lt_pow_right (by decide) h
def v_isState (S : Nat → Nat) (p v : Int32) : Bool := if v = nI 5 then true else (if v_isVersion S p v = true then true else false)
theorem v_isState_n {S : Nat → Nat} (hW : wfB S) {p v : Int32} (h : v_isState S p v = true) : v.toNatClampNeg ≤ 5 ∧ nI v.toNatClampNeg = v := by
  unfold v_isState at h
  split at h
  · rename_i e
    rw [e, nI_clamp (by decide)]
    exact ⟨Nat.le_refl _, rfl⟩
  · split at h
    · rename_i e
      have h1 := v_isVersion_v hW e
      have h2 := (v_isPack_n hW (v_isVersion_p e)).1
      have h3 := hW.nv (p := p.toNatClampNeg) (by have := hW.p; omega)
      exact ⟨by omega, h1.2⟩
    · cases h
