/-! the reference's whole lasting state, and changes of it -/
set_option maxRecDepth 100000
/-- numbers; saved is there; saved; changes kept; they; input; its characters; error; failed item; written; the report's characters -/
abbrev t_Z : Type := (Nat → Nat) × Bool × (Nat → Nat) × Nat × (Nat → Nat → Nat) × Nat × (Nat → Nat) × Int32 × Int32 × Nat × (Nat → Nat)
abbrev zS (z : t_Z) : Nat → Nat := z.1
abbrev zb (z : t_Z) : Bool := z.2.1
abbrev zV (z : t_Z) : Nat → Nat := z.2.2.1
abbrev zk (z : t_Z) : Nat := z.2.2.2.1
abbrev zH (z : t_Z) : Nat → Nat → Nat := z.2.2.2.2.1
abbrev zl (z : t_Z) : Nat := z.2.2.2.2.2.1
abbrev zx (z : t_Z) : Nat → Nat := z.2.2.2.2.2.2.1
abbrev ze (z : t_Z) : Int32 := z.2.2.2.2.2.2.2.1
abbrev zi (z : t_Z) : Int32 := z.2.2.2.2.2.2.2.2.1
abbrev zw (z : t_Z) : Nat := z.2.2.2.2.2.2.2.2.2.1
abbrev zr (z : t_Z) : Nat → Nat := z.2.2.2.2.2.2.2.2.2.2
def isZ (F : Nat → Int32) (A : Nat → Nat → Int32) (z : t_Z) : Prop := (∀ j, j < 237 → A 0 j = nI (zS z j)) ∧ F 5 = bI (zb z) ∧ (zb z = true → ∀ j, j < 237 → A 1 j = nI (zV z j)) ∧ F 4 = nI (zk z) ∧ (∀ i, i < zk z → ∀ j, j < 237 → A 3 (237 * i + j) = nI (zH z i j)) ∧
  F 7 = nI (zl z) ∧ (∀ j, j < zl z → A 6 j = nI (zx z j)) ∧ F 8 = ze z ∧ F 9 = zi z ∧ F 11 = nI (zw z) ∧ ∀ j, j < zw z → A 10 j = nI (zr z j)
theorem isZ.s {F A} {z : t_Z} (h : isZ F A z) : ∀ j, j < 237 → A 0 j = nI (zS z j) := h.1
theorem isZ.kp {F A} {z : t_Z} (h : isZ F A z) : F 4 = nI (zk z) := h.2.2.2.1
theorem isZ.hi {F A} {z : t_Z} (h : isZ F A z) : ∀ i, i < zk z → ∀ j, j < 237 → A 3 (237 * i + j) = nI (zH z i j) := h.2.2.2.2.1
/-- scratch may change: the state is the same -/
theorem isZ.scr {F A F' A'} {z : t_Z} (h : isZ F A z) (hF : ∀ k, k = 4 ∨ k = 5 ∨ k = 7 ∨ k = 8 ∨ k = 9 ∨ k = 11 → F' k = F k) (hA : ∀ k, k = 0 ∨ k = 1 ∨ k = 3 ∨ k = 6 ∨ k = 10 → A' k = A k) : isZ F' A' z := by
  obtain ⟨h0, h1, h2, h3, h4, h5, h6, h7, h8, h9, h10⟩ := h
  refine ⟨?_, ?_, ?_, ?_, ?_, ?_, ?_, ?_, ?_, ?_, ?_⟩
  · rw [hA 0 (by decide)]; exact h0
  · rw [hF 5 (by decide)]; exact h1
  · rw [hA 1 (by decide)]; exact h2
  · rw [hF 4 (by decide)]; exact h3
  · rw [hA 3 (by decide)]; exact h4
  · rw [hF 7 (by decide)]; exact h5
  · rw [hA 6 (by decide)]; exact h6
  · rw [hF 8 (by decide)]; exact h7
  · rw [hF 9 (by decide)]; exact h8
  · rw [hF 11 (by decide)]; exact h9
  · rw [hA 10 (by decide)]; exact h10
theorem isZ.kt {F A F' A'} {z : t_Z} (h : isZ F A z) (hK : ktT F A F' A') : isZ F' A' z := h.scr (fun k e => hK.1 k (by omega) (by omega)) (fun k e => hK.2 k (by omega) (by omega) (by omega) (by omega))
def pk8 (k : Nat) : Nat := if k = 8 then 8 else k + 1
def pushH (k : Nat) (H : Nat → Nat → Nat) (R : Nat → Nat) : Nat → Nat → Nat := fun i => if k = 8 then (if i = 7 then R else H (i + 1)) else (if i = k then R else H i)
/-- the numbers become S', the old ones R are kept -/
def zput (z : t_Z) (R S' : Nat → Nat) : t_Z := (S', zb z, zV z, pk8 (zk z), pushH (zk z) (zH z) R, z.2.2.2.2.2)
/-- what changed does -/
def chP (k : Nat) (H : Nat → Nat → Nat) (R : Nat → Nat) (F : Nat → Int32) (A : Nat → Nat → Int32) (F' : Nat → Int32) (A' : Nat → Nat → Int32) : Prop := (∀ q, q ≠ 4 → F' q = F q) ∧ F' 4 = nI (pk8 k) ∧ (∀ i, i ≠ 3 → A' i = A i) ∧ ∀ i, i < pk8 k → ∀ j, j < 237 → A' 3 (237 * i + j) = nI (pushH k H R i j)
theorem isZ.put {F A A1 F' A'} {z : t_Z} {R S' : Nat → Nat} (h : isZ F A z) (h1 : ∀ i, i ≠ 0 → i ≠ 2 → A1 i = A i) (hS : ∀ j, j < 237 → A1 0 j = nI (S' j)) (hc : chP (zk z) (zH z) R F A1 F' A') : isZ F' A' (zput z R S') := by
  obtain ⟨c1, c2, c3, c4⟩ := hc
  obtain ⟨h0, g1, h2, h3, h4, h5, h6, h7, h8, h9, h10⟩ := h
  refine ⟨fun j hj => ?_, ?_, ?_, c2, c4, ?_, ?_, ?_, ?_, ?_, ?_⟩
  · rw [c3 0 (by decide)]; exact hS j hj
  · rw [c1 5 (by decide)]; exact g1
  · rw [c3 1 (by decide), h1 1 (by decide) (by decide)]; exact h2
  · rw [c1 7 (by decide)]; exact h5
  · rw [c3 6 (by decide), h1 6 (by decide) (by decide)]; exact h6
  · rw [c1 8 (by decide)]; exact h7
  · rw [c1 9 (by decide)]; exact h8
  · rw [c1 11 (by decide)]; exact h9
  · rw [c3 10 (by decide), h1 10 (by decide) (by decide)]; exact h10
theorem isZ.put2 {F A F1 A1 F' A'} {z : t_Z} {R S' : Nat → Nat} (h : isZ F A z) (hF : ∀ k, k = 5 ∨ k = 7 ∨ k = 8 ∨ k = 9 ∨ k = 11 → F1 k = F k) (h1 : ∀ i, i = 1 ∨ i = 3 ∨ i = 6 ∨ i = 10 → A1 i = A i) (hS : ∀ j, j < 237 → A1 0 j = nI (S' j)) (hc : chP (zk z) (zH z) R F1 A1 F' A') : isZ F' A' (zput z R S') := by
  obtain ⟨c1, c2, c3, c4⟩ := hc
  obtain ⟨h0, g1, h2, h3, h4, h5, h6, h7, h8, h9, h10⟩ := h
  refine ⟨fun j hj => ?_, ?_, ?_, c2, c4, ?_, ?_, ?_, ?_, ?_, ?_⟩
  · rw [c3 0 (by decide)]; exact hS j hj
  · rw [c1 5 (by decide), hF 5 (by decide)]; exact g1
  · rw [c3 1 (by decide), h1 1 (by decide)]; exact h2
  · rw [c1 7 (by decide), hF 7 (by decide)]; exact h5
  · rw [c3 6 (by decide), h1 6 (by decide)]; exact h6
  · rw [c1 8 (by decide), hF 8 (by decide)]; exact h7
  · rw [c1 9 (by decide), hF 9 (by decide)]; exact h8
  · rw [c1 11 (by decide), hF 11 (by decide)]; exact h9
  · rw [c3 10 (by decide), h1 10 (by decide)]; exact h10
theorem isZ.undo {F A A1} {z : t_Z} (h : isZ F A z) (hk : ¬ zk z = 0) (hB : ∀ i, i ≠ 0 → A1 i = A i) (hA : ∀ j, j < 237 → A1 0 j = nI (zH z (zk z - 1) j)) : isZ (upd F 4 (nI (zk z - 1))) A1 (zH z (zk z - 1), zb z, zV z, zk z - 1, z.2.2.2.2) := by
  obtain ⟨h0, g1, h2, h3, h4, h5, h6, h7, h8, h9, h10⟩ := h
  refine ⟨hA, (pk_un (by decide)).trans g1, ?_, pk_us, ?_, (pk_un (by decide)).trans h5, ?_, (pk_un (by decide)).trans h7, (pk_un (by decide)).trans h8, (pk_un (by decide)).trans h9, ?_⟩
  · rw [hB 1 (by decide)]; exact h2
  · intro i hi j hj
    rw [hB 3 (by decide)]
    exact h4 i (by have : i < zk z - 1 := hi; omega) j hj
  · rw [hB 6 (by decide)]; exact h6
  · rw [hB 10 (by decide)]; exact h10
theorem isZ.save {F A A1} {z : t_Z} (h : isZ F A z) (hB : ∀ i, i ≠ 1 → A1 i = A i) (hA : ∀ j, j < 237 → A1 1 j = nI (zS z j)) : isZ (upd F 5 (bI true)) A1 (zS z, true, zS z, z.2.2.2) := by
  obtain ⟨h0, g1, h2, h3, h4, h5, h6, h7, h8, h9, h10⟩ := h
  refine ⟨?_, pk_us, fun _ => hA, (pk_un (by decide)).trans h3, ?_, (pk_un (by decide)).trans h5, ?_, (pk_un (by decide)).trans h7, (pk_un (by decide)).trans h8, (pk_un (by decide)).trans h9, ?_⟩
  · rw [hB 0 (by decide)]; exact h0
  · rw [hB 3 (by decide)]; exact h4
  · rw [hB 6 (by decide)]; exact h6
  · rw [hB 10 (by decide)]; exact h10
theorem isZ.rest {F A A1} {z : t_Z} (h : isZ F A z) (hB : ∀ i, i ≠ 0 → A1 i = A i) (hA : ∀ j, j < 237 → A1 0 j = nI (zV z j)) : isZ (upd F 4 (nI 0)) A1 (zV z, zb z, zV z, 0, z.2.2.2.2) := by
  obtain ⟨h0, g1, h2, h3, h4, h5, h6, h7, h8, h9, h10⟩ := h
  refine ⟨hA, (pk_un (by decide)).trans g1, ?_, pk_us, fun i hi => absurd hi (Nat.not_lt_zero _), (pk_un (by decide)).trans h5, ?_, (pk_un (by decide)).trans h7, (pk_un (by decide)).trans h8, (pk_un (by decide)).trans h9, ?_⟩
  · rw [hB 1 (by decide)]; exact h2
  · rw [hB 6 (by decide)]; exact h6
  · rw [hB 10 (by decide)]; exact h10
theorem mdA_S {A : Nat → Nat → Int32} {S : Nat → Nat} (h : ∀ j, j < 237 → A 0 j = nI (S j)) (i n : Nat) : ∀ j, j < 237 → mdA A 0 i (nI n) 0 j = nI (up2 S i n j) := fun j hj => by
  unfold up2
  by_cases e : j = i
  · rw [if_pos e, e, mdA_s]
  · rw [if_neg e, mdA_o e]; exact h j hj
def packS (S : Nat → Nat) : Nat → Nat → Nat
  | 0 => S
  | k + 1 => up2 (packS S k) (3 + 7 * S 0 + k) 0
def m_packR (S : Nat → Nat) : Int32 := if S 0 = 6 then (-4) else nI (S 0)
def m_packZ (z : t_Z) : t_Z := if zS z 0 = 6 then z else zput z (zS z) (up2 (packS (zS z) 7) 0 (zS z 0 + 1))
def addS (S : Nat → Nat) (a b c d e f : Nat) : Nat → Nat := up2 (up2 (up2 (up2 (up2 (up2 (up2 S (45 + 6 * S 1 + 0) a) (45 + 6 * S 1 + 1) b) (45 + 6 * S 1 + 2) c) (45 + 6 * S 1 + 3) d) (45 + 6 * S 1 + 4) e) (45 + 6 * S 1 + 5) f) 1 (S 1 + 1)
