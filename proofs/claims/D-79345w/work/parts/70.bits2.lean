/-! the number of bits, as java.lang.Long counts them -/
set_option maxRecDepth 100000
theorem bc_and {q b m n : Nat} (hb : b < 256) (hn : n < 256) : (256 * q + b) &&& (256 * m + n) = 256 * (q &&& m) + (b &&& n) := by
  have hbn : b &&& n < 2 ^ 8 := Nat.lt_of_le_of_lt Nat.and_le_left (by omega)
  apply Nat.eq_of_testBit_eq
  intro i
  rw [Nat.testBit_and, show 256 * q + b = 2 ^ 8 * q + b from rfl, show 256 * m + n = 2 ^ 8 * m + n from rfl, show 256 * (q &&& m) + (b &&& n) = 2 ^ 8 * (q &&& m) + (b &&& n) from rfl, Nat.testBit_two_pow_mul_add _ (by omega), Nat.testBit_two_pow_mul_add _ (by omega), Nat.testBit_two_pow_mul_add _ hbn]
  split
  · rw [Nat.testBit_and]
  · rw [Nat.testBit_and]
def bc1 (M m : Nat) : Nat := m - (m / 2 &&& M)
def bc2 (M m : Nat) : Nat := (m &&& M) + (m / 4 &&& M)
def bc3 (M m : Nat) : Nat := (m + m / 16) &&& M
theorem bt1 : ∀ b, b < 256 → ∀ q, q < 2 → (128 * q + b / 2) &&& 85 = b / 2 &&& 85 := by decide +kernel
theorem bt1' : ∀ b, b < 256 → b / 2 &&& 85 ≤ b := by decide +kernel
theorem bt2 : ∀ b, b < 256 → ∀ q, q < 4 → (64 * q + b / 4) &&& 51 = b / 4 &&& 51 := by decide +kernel
theorem bt3 : ∀ b, b < 256 → bc2 51 (bc1 85 b) < 69 ∧ bc2 51 (bc1 85 b) % 16 ≤ 4 ∧ bc1 85 b < 256 := by decide +kernel
theorem bt4 : ∀ b, b < 69 → ∀ q, q < 5 → b % 16 ≤ 4 → (b + (16 * q + b / 16)) < 256 ∧ (b + (16 * q + b / 16)) &&& 15 = (b + b / 16) &&& 15 := by decide +kernel
theorem bt5 : ∀ b, b < 256 → bc3 15 (bc2 51 (bc1 85 b)) = cntN b 8 := by decide +kernel
theorem bc1_s {M q b : Nat} (hb : b < 256) : bc1 (256 * M + 85) (256 * q + b) = 256 * bc1 M q + bc1 85 b := by
  unfold bc1
  have e : (256 * q + b) / 2 = 256 * (q / 2) + (128 * (q % 2) + b / 2) := by omega
  have h1 := bt1 b hb (q % 2) (by omega)
  have h2 := bt1' b hb
  have h3 : q / 2 &&& M ≤ q := Nat.le_trans Nat.and_le_left (Nat.div_le_self _ _)
  rw [e, bc_and (by omega) (by decide), h1]
  omega
theorem bc2_s {M q b : Nat} (hb : b < 256) : bc2 (256 * M + 51) (256 * q + b) = 256 * bc2 M q + bc2 51 b := by
  unfold bc2
  have e : (256 * q + b) / 4 = 256 * (q / 4) + (64 * (q % 4) + b / 4) := by omega
  have h1 := bt2 b hb (q % 4) (by omega)
  rw [e, bc_and hb (by decide), bc_and (by omega) (by decide), h1]
  omega
theorem bc3_s {M q b : Nat} (hb : b < 69) (hb4 : b % 16 ≤ 4) (hq : q % 16 ≤ 4) : bc3 (256 * M + 15) (256 * q + b) = 256 * bc3 M q + bc3 15 b := by
  unfold bc3
  obtain ⟨h0, h1⟩ := bt4 b hb (q % 16) (by omega) hb4
  have e : 256 * q + b + (256 * q + b) / 16 = 256 * (q + q / 16) + (b + (16 * (q % 16) + b / 16)) := by omega
  rw [e, bc_and h0 (by decide), h1]
/-- the first three steps, byte by byte -/
def bcF (A B C m : Nat) : Nat := bc3 C (bc2 B (bc1 A m))
theorem bcF_s {A B C q b : Nat} (hb : b < 256) (hq : bc2 B (bc1 A q) % 16 ≤ 4) : bcF (256 * A + 85) (256 * B + 51) (256 * C + 15) (256 * q + b) = 256 * bcF A B C q + cntN b 8 := by
  unfold bcF
  obtain ⟨h1, h2, h3⟩ := bt3 b hb
  rw [bc1_s hb, bc2_s h3, bc3_s h1 h2 hq, bt5 b hb]
theorem bc_m4 {A B q b : Nat} (hb : b < 256) : bc2 (256 * B + 51) (bc1 (256 * A + 85) (256 * q + b)) % 16 ≤ 4 := by
  obtain ⟨h1, h2, h3⟩ := bt3 b hb
  rw [bc1_s hb, bc2_s h3]
  omega
theorem cnt_lo (m : Nat) : cntN m 8 = cntN (m % 256) 8 := by
  unfold cntN cntN cntN cntN cntN cntN cntN cntN cntN
  omega
theorem cnt_hi (m : Nat) : ∀ k, cntN m (8 + k) = cntN m 8 + cntN (m / 256) k
  | 0 => rfl
  | k + 1 => by
    show cntN m (8 + k) + m / 2 ^ (8 + k) % 2 = cntN m 8 + (cntN (m / 256) k + m / 256 / 2 ^ k % 2)
    have e : m / 2 ^ (8 + k) = m / 256 / 2 ^ k := by rw [Nat.pow_add, ← Nat.div_div_eq_div_mul]
    rw [cnt_hi m k, e]
    omega
theorem cnt_z {m : Nat} : ∀ {k n : Nat}, m < 2 ^ k → cntN m (k + n) = cntN m k
  | _, 0, _ => rfl
  | k, n + 1, h => by
    show cntN m (k + n) + m / 2 ^ (k + n) % 2 = _
    rw [cnt_z h, Nat.div_eq_of_lt (Nat.lt_of_lt_of_le h (Nat.pow_le_pow_right (by decide) (by omega)))]
    rfl
theorem cnt_by {m : Nat} (h : m < 2 ^ 36) : cntN m 64 = cntN (m % 256) 8 + cntN (m / 256 % 256) 8 + cntN (m / 65536 % 256) 8 + cntN (m / 16777216 % 256) 8 + cntN (m / 4294967296) 8 := by
  have e : cntN m 64 = cntN m (8 + (8 + (8 + (8 + 8)))) := cnt_z (k := 40) (n := 24) (by omega)
  rw [e, cnt_hi, cnt_hi (m / 256), cnt_hi (m / 256 / 256), cnt_hi (m / 256 / 256 / 256), cnt_lo m, cnt_lo (m / 256), cnt_lo (m / 256 / 256), cnt_lo (m / 256 / 256 / 256)]
  rw [show m / 256 / 256 = m / 65536 by omega, show m / 65536 / 256 = m / 16777216 by omega, show m / 16777216 / 256 = m / 4294967296 by omega]
  omega
theorem cnt_8 {b : Nat} : cntN b 8 ≤ 8 := cntN_le b 8
def bcA : Nat := 6148914691236517205
def bcB : Nat := 3689348814741910323
def bcC : Nat := 1085102592571150095
theorem bcF_36 {m : Nat} (h : m < 2 ^ 36) : bcF bcA bcB bcC m = cntN (m % 256) 8 + 256 * (cntN (m / 256 % 256) 8 + 256 * (cntN (m / 65536 % 256) 8 + 256 * (cntN (m / 16777216 % 256) 8 + 256 * cntN (m / 4294967296) 8))) := by
  have e5 : ∀ q, q < 256 → bcF 1431655765 858993459 252645135 q = cntN q 8 := by
    intro q hq
    have := bcF_s (A := 5592405) (B := 3355443) (C := 986895) (q := 0) hq (by decide)
    rw [show 256 * 0 + q = q by omega] at this
    rw [show (1431655765 : Nat) = 256 * 5592405 + 85 from rfl, show (858993459 : Nat) = 256 * 3355443 + 51 from rfl, show (252645135 : Nat) = 256 * 986895 + 15 from rfl, this]
    have z : bcF 5592405 3355443 986895 0 = 0 := by decide
    omega
  have hb : ∀ q, q / 1 % 256 < 256 := fun q => Nat.mod_lt _ (by decide)
  have m4 : m / 4294967296 < 256 := by omega
  have d4 : m / 16777216 = 256 * (m / 4294967296) + m / 16777216 % 256 := by omega
  have d3 : m / 65536 = 256 * (m / 16777216) + m / 65536 % 256 := by omega
  have d2 : m / 256 = 256 * (m / 65536) + m / 256 % 256 := by omega
  have d1 : m = 256 * (m / 256) + m % 256 := by omega
  have k5 : bc2 858993459 (bc1 1431655765 (m / 4294967296)) % 16 ≤ 4 := by
    have := bc_m4 (A := 5592405) (B := 3355443) (q := 0) m4
    rw [show 256 * 0 + m / 4294967296 = m / 4294967296 by omega] at this
    exact this
  have f4 : bcF 366503875925 219902325555 64677154575 (m / 16777216) = 256 * cntN (m / 4294967296) 8 + cntN (m / 16777216 % 256) 8 := by
    have := bcF_s (A := 1431655765) (B := 858993459) (C := 252645135) (q := m / 4294967296) (b := m / 16777216 % 256) (Nat.mod_lt _ (by decide)) k5
    rw [← d4, e5 _ m4] at this
    exact this
  have k4 : bc2 219902325555 (bc1 366503875925 (m / 16777216)) % 16 ≤ 4 := by
    have := bc_m4 (A := 1431655765) (B := 858993459) (q := m / 4294967296) (b := m / 16777216 % 256) (Nat.mod_lt _ (by decide))
    rw [← d4] at this
    exact this
  have f3 : bcF 93824992236885 56294995342131 16557351571215 (m / 65536) = 256 * (256 * cntN (m / 4294967296) 8 + cntN (m / 16777216 % 256) 8) + cntN (m / 65536 % 256) 8 := by
    have := bcF_s (A := 366503875925) (B := 219902325555) (C := 64677154575) (q := m / 16777216) (b := m / 65536 % 256) (Nat.mod_lt _ (by decide)) k4
    rw [← d3, f4] at this
    exact this
  have k3 : bc2 56294995342131 (bc1 93824992236885 (m / 65536)) % 16 ≤ 4 := by
    have := bc_m4 (A := 366503875925) (B := 219902325555) (q := m / 16777216) (b := m / 65536 % 256) (Nat.mod_lt _ (by decide))
    rw [← d3] at this
    exact this
  have f2 : bcF 24019198012642645 14411518807585587 4238682002231055 (m / 256) = 256 * (256 * (256 * cntN (m / 4294967296) 8 + cntN (m / 16777216 % 256) 8) + cntN (m / 65536 % 256) 8) + cntN (m / 256 % 256) 8 := by
    have := bcF_s (A := 93824992236885) (B := 56294995342131) (C := 16557351571215) (q := m / 65536) (b := m / 256 % 256) (Nat.mod_lt _ (by decide)) k3
    rw [← d2, f3] at this
    exact this
  have k2 : bc2 14411518807585587 (bc1 24019198012642645 (m / 256)) % 16 ≤ 4 := by
    have := bc_m4 (A := 93824992236885) (B := 56294995342131) (q := m / 65536) (b := m / 256 % 256) (Nat.mod_lt _ (by decide))
    rw [← d2] at this
    exact this
  have f1 : bcF bcA bcB bcC m = 256 * (256 * (256 * (256 * cntN (m / 4294967296) 8 + cntN (m / 16777216 % 256) 8) + cntN (m / 65536 % 256) 8) + cntN (m / 256 % 256) 8) + cntN (m % 256) 8 := by
    have := bcF_s (A := 24019198012642645) (B := 14411518807585587) (C := 4238682002231055) (q := m / 256) (b := m % 256) (Nat.mod_lt _ (by decide)) k2
    rw [← d1, f2] at this
    exact this
  rw [f1]
  omega
/-- the last steps add the bytes up -/
theorem bc_sum {a b c d e : Nat} (ha : a ≤ 8) (hb : b ≤ 8) (hc : c ≤ 8) (hd : d ≤ 8) (he : e ≤ 8) {s s4 s5 s6 : Nat} (hs : s = a + 256 * (b + 256 * (c + 256 * (d + 256 * e)))) (h4 : s4 = s + s / 256) (h5 : s5 = s4 + s4 / 65536) (h6 : s6 = s5 + s5 / 4294967296) : s6 % 128 = a + b + c + d + e := by
  have e4 : s4 = (a + b) + 256 * ((b + c) + 256 * ((c + d) + 256 * ((d + e) + 256 * e))) := by omega
  have e5 : s5 = (a + b + c + d) + 256 * ((b + c + d + e) + 256 * ((c + d + e) + 256 * ((d + e) + 256 * e))) := by omega
  have e6 : s5 / 4294967296 = e := by omega
  omega
theorem bc_lt {m : Nat} (h : m < 2 ^ 36) : bc1 bcA m < 2 ^ 37 ∧ bc2 bcB (bc1 bcA m) < 2 ^ 39 ∧ bcF bcA bcB bcC m < 2 ^ 40 := by
  have h1 : bc1 bcA m ≤ m := Nat.sub_le _ _
  have h2 : bc2 bcB (bc1 bcA m) ≤ bc1 bcA m + bc1 bcA m / 4 := Nat.add_le_add Nat.and_le_left Nat.and_le_left
  have h3 : bcF bcA bcB bcC m ≤ bc2 bcB (bc1 bcA m) + bc2 bcB (bc1 bcA m) / 16 := Nat.and_le_left
  omega
theorem bc_all {m : Nat} (h : m < 2 ^ 36) {s s4 s5 s6 : Nat} (hs : s = bcF bcA bcB bcC m) (h4 : s4 = s + s / 256) (h5 : s5 = s4 + s4 / 65536) (h6 : s6 = s5 + s5 / 4294967296) : s6 % 128 = cntN m 64 := by
  rw [cnt_by h]
  exact bc_sum cnt_8 cnt_8 cnt_8 cnt_8 cnt_8 (hs.trans (bcF_36 h)) h4 h5 h6
