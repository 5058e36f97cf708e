/-! the search's counts -/
set_option maxRecDepth 100000
theorem triL_n {step : Nat → t_Y → t_Y} {most b : Nat} (h : ∀ k Y, (step k Y).1 ≤ Y.1 + b) : ∀ (e k : Nat) (Y : t_Y), (triL step most e k Y).1 ≤ Y.1 + e * b
  | 0, _, _ => by unfold triL; omega
  | e + 1, k, Y => by
    unfold triL
    split
    · have h1 := triL_n (most := most) h e (k + 1) (step k Y)
      have h2 := h k Y
      rw [Nat.add_mul]
      omega
    · omega
theorem triF_n {S : Nat → Nat} (hW : wfB S) {m : Int32} {most : Nat} : ∀ (d : Nat) (c : Nat → Nat) (Y : t_Y), d ≤ S 0 → (triF S m most d c Y).1 ≤ Y.1 + 6 ^ d
  | 0, c, Y, _ => by
    unfold triF
    split
    · exact Nat.le_refl _
    · omega
  | d + 1, c, Y, hd => by
    have h0 := hW.p
    unfold triF
    refine Nat.le_trans (triL_n (b := 6 ^ d) (fun k Y => ?_) _ _ _) ?_
    · split
      · exact triF_n hW d _ _ (by omega)
      · exact Nat.le_add_right _ _
    · have h1 := hW.nv (p := S 0 - (d + 1)) (by omega)
      have : (v_of S (S 0 - (d + 1)) 0 + 1) * 6 ^ d ≤ 6 * 6 ^ d := Nat.mul_le_mul_right _ (by omega)
      rw [Nat.pow_succ]
      omega
def mY (G : jv_G) (o : md_O) (S : Nat → Nat) (p : Nat) (F : Nat → Int32) (A : Nat → Nat → Int32) (Y : t_Y) : jv_M → Prop := fun M' => ∃ F' A', M' = md_M G o F' A' ∧ isY S F' A' Y ∧ ktY p F A F' A'
theorem up2_C {A : Nat → Nat → Int32} {c : Nat → Nat} {p v : Nat} (h : ∀ q, q < p → A 18 q = nI (c q)) : ∀ q, q < p + 1 → mdA A 18 p (nI v) 18 q = nI (up2 c p v q) := fun q hq => by
  unfold up2
  by_cases e : q = p
  · rw [if_pos e, e, mdA_s]
  · rw [if_neg e, mdA_o e]; exact h q (by omega)
theorem isY.st {S : Nat → Nat} {F : Nat → Int32} {A : Nat → Nat → Int32} {Y : t_Y} {p : Nat} {v : Int32} (h : isY S F A Y) : isY S F (mdA A 18 p v) Y := ⟨h.1, fun z q hq => by rw [mdA_i (by decide)]; exact h.2.1 z q hq, fun q hq => by rw [mdA_i (by decide)]; exact h.2.2 q hq⟩
theorem ktY_st {F : Nat → Int32} {A : Nat → Nat → Int32} {p : Nat} {v : Int32} : ktY p F A F (mdA A 18 p v) := ⟨fun _ _ => rfl, fun k a _ _ => mdA_i a, fun q hq => mdA_o (by omega)⟩
theorem triF_s {S : Nat → Nat} {m : Int32} {most d p : Nat} {c : Nat → Nat} {Y : t_Y} (h : S 0 = p + d + 1) : triF S m most (d + 1) c Y = triL (fun k Y => if fit_ S m p (up2 c p (rk S p k)) = true then triF S m most d (up2 c p (rk S p k)) Y else Y) most (v_of S p 0 + 1) 0 Y := by
  have e : S 0 - (d + 1) = p := by omega
  show triL _ most (v_of S (S 0 - (d + 1)) 0 + 1) 0 Y = _
  rw [e]
