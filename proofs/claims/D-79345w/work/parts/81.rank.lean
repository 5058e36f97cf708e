/-! the order of a search; how many it may find -/
set_option maxRecDepth 100000
/-- a package's versions differ -/
def wfV (S : Nat → Nat) : Prop := ∀ p, p < S 0 → ∀ v w, v < v_of S p 0 → w < v_of S p 0 → v_of S p (2 + v) = v_of S p (2 + w) → v = w
theorem inj_sur : ∀ (n : Nat) (f : Nat → Nat), (∀ i, i < n → f i < n) → (∀ i j, i < n → j < n → f i = f j → i = j) → ∀ y, y < n → ∃ i, i < n ∧ f i = y
  | 0, _, _, _, y, hy => absurd hy (Nat.not_lt_zero _)
  | n + 1, f, hf, hi, y, hy => by
    have hz := hf n (by omega)
    have hne : ∀ i, i < n → f i ≠ f n := fun i h e => by have := hi i n (by omega) (by omega) e; omega
    have ih := inj_sur n (fun i => if f i = n then f n else f i) (fun i h => by
      show (if f i = n then f n else f i) < n
      have h1 := hf i (by omega)
      have h2 := hne i h
      split <;> omega) (fun i j h1 h2 e => by
      have e : (if f i = n then f n else f i) = (if f j = n then f n else f j) := e
      have a1 := hne i h1
      have a2 := hne j h2
      refine hi i j (by omega) (by omega) ?_
      by_cases z1 : f i = n <;> by_cases z2 : f j = n <;> simp only [z1, z2, if_true, if_false, if_pos, if_neg] at e ⊢ <;> omega)
    by_cases e : y = f n
    · exact ⟨n, by omega, e.symm⟩
    · by_cases e2 : y = n
      · obtain ⟨i, h1, h2⟩ := ih (f n) (by omega)
        have h2 : (if f i = n then f n else f i) = f n := h2
        refine ⟨i, by omega, ?_⟩
        by_cases z : f i = n
        · rw [z, e2]
        · rw [if_neg z] at h2; exact absurd h2 (hne i h1)
      · obtain ⟨i, h1, h2⟩ := ih y (by omega)
        have h2 : (if f i = n then f n else f i) = y := h2
        by_cases z : f i = n
        · rw [if_pos z] at h2; exact absurd h2.symm e
        · rw [if_neg z] at h2; exact ⟨i, by omega, h2⟩
theorem befN_mo {S : Nat → Nat} {p a b : Nat} (h : v_order (v_of S p (2 + a)) ≤ v_order (v_of S p (2 + b))) : ∀ n, befN S p a n ≤ befN S p b n
  | 0 => Nat.le_refl _
  | n + 1 => by
    have ih := befN_mo h n
    unfold befN
    by_cases e : v_order (v_of S p (2 + b)) ≤ v_order (v_of S p (2 + n))
    · rw [if_pos e, if_pos (Nat.le_trans h e)]; omega
    · rw [if_neg e]; split <;> omega
theorem befN_lt {S : Nat → Nat} {p a b : Nat} (h : v_order (v_of S p (2 + a)) < v_order (v_of S p (2 + b))) : ∀ n, a < n → befN S p a n < befN S p b n
  | 0, hn => absurd hn (Nat.not_lt_zero _)
  | n + 1, hn => by
    have hm := befN_mo (Nat.le_of_lt h) n
    unfold befN
    by_cases e : a = n
    · subst e
      rw [if_pos (Nat.le_refl _), if_neg (by omega)]; omega
    · have ih := befN_lt h n (by omega)
      by_cases e : v_order (v_of S p (2 + b)) ≤ v_order (v_of S p (2 + n))
      · rw [if_pos e, if_pos (by omega)]; omega
      · rw [if_neg e]; split <;> omega
theorem befN_in {S : Nat → Nat} {p a : Nat} : ∀ n, a < n → befN S p a n < n
  | 0, hn => absurd hn (Nat.not_lt_zero _)
  | n + 1, hn => by
    unfold befN
    by_cases e : a = n
    · subst e
      rw [if_pos (Nat.le_refl _)]
      have := befN_le S p a a
      omega
    · have := befN_in (S := S) (p := p) n (show a < n by omega)
      split <;> omega
theorem bef_in {S : Nat → Nat} {p a : Nat} (h : a < v_of S p 0) : bef S p a < v_of S p 0 := befN_in _ h
theorem bef_inj {S : Nat → Nat} (hW : wfB S) (hV : wfV S) {p : Nat} (hp : p < S 0) {a b : Nat} (ha : a < v_of S p 0) (hb : b < v_of S p 0) (h : bef S p a = bef S p b) : a = b := by
  have hp6 : p < 6 := Nat.lt_of_lt_of_le hp hW.p
  have hn := hW.nv hp6
  refine hV p hp a b ha hb (v_order_inj.mp ?_)
  rcases Nat.lt_trichotomy (v_order (v_of S p (2 + a))) (v_order (v_of S p (2 + b))) with z | z | z
  · have := befN_lt z _ ha; unfold bef at h; omega
  · exact z
  · have := befN_lt z _ hb; unfold bef at h; omega
theorem rkN_at {S : Nat → Nat} {p k w n : Nat} (hw : bef S p w + 1 = n - k) (hu : ∀ v, v < w → ¬ bef S p v + 1 = n - k) (hn : n = v_of S p 0) : ∀ d v, v ≤ w → w < v + d → rkN S p k d v = w
  | 0, v, h1, h2 => by omega
  | d + 1, v, h1, h2 => by
    unfold rkN
    by_cases e : v = w
    · rw [e, if_pos (by rw [← hn]; exact hw)]
    · rw [if_neg (by rw [← hn]; exact hu v (by omega))]
      exact rkN_at hw hu hn d (v + 1) (by omega) (by omega)
theorem rkN_5 {S : Nat → Nat} {p k : Nat} (h : ∀ v, ¬ bef S p v + 1 = v_of S p 0 - k) : ∀ d v, rkN S p k d v = 5
  | 0, _ => rfl
  | d + 1, v => by unfold rkN; rw [if_neg (h v)]; exact rkN_5 h d (v + 1)
/-- what the order's cells hold when every version has been put in its place -/
theorem ord_ok {S : Nat → Nat} (hW : wfB S) (hV : wfV S) {p at_ : Nat} (hp : p < S 0) {g : Nat → Int32} (hg : ∀ w, w < v_of S p 0 → g (at_ + v_of S p 0 - 1 - bef S p w) = nI w) (h5 : g (at_ + v_of S p 0) = nI 5) : ∀ k, k ≤ v_of S p 0 → g (at_ + k) = nI (rk S p k) := by
  intro k hk
  by_cases e : k = v_of S p 0
  · rw [e, h5]
    unfold rk
    rw [rkN_5 (fun v z => by omega)]
  · obtain ⟨w, hw, hb⟩ := inj_sur (v_of S p 0) (bef S p) (fun i hi => bef_in hi) (fun i j hi hj h => bef_inj hW hV hp hi hj h) (v_of S p 0 - 1 - k) (by omega)
    have h1 := hg w hw
    rw [show at_ + v_of S p 0 - 1 - bef S p w = at_ + k by omega] at h1
    rw [h1]
    unfold rk
    rw [rkN_at (w := w) (n := v_of S p 0) (by omega) (fun v hv z => by
      have := bef_inj hW hV hp (show v < v_of S p 0 by omega) hw (by omega)
      omega) rfl _ _ (Nat.zero_le _) (by omega)]
theorem triL_bd {step : Nat → t_Y → t_Y} {most B : Nat} (h : ∀ k Y, (step k Y).1 ≤ Y.1 + B) : ∀ (e k : Nat) (Y : t_Y), (triL step most e k Y).1 ≤ Y.1 + e * B
  | 0, _, _ => Nat.le_add_right _ _
  | e + 1, k, Y => by
    unfold triL
    split
    · have h1 := triL_bd (most := most) h e (k + 1) (step k Y)
      have h2 := h k Y
      rw [Nat.add_mul, Nat.one_mul]
      omega
    · exact Nat.le_add_right _ _
theorem triF_bd {S : Nat → Nat} (hW : wfB S) {m : Int32} {most : Nat} : ∀ (d : Nat) (c : Nat → Nat) (Y : t_Y), d ≤ S 0 → (triF S m most d c Y).1 ≤ Y.1 + 6 ^ d
  | 0, c, Y, _ => by
    unfold triF lfY
    split
    · exact Nat.le_refl _
    · exact Nat.le_add_right _ _
  | d + 1, c, Y, hd => by
    have h6 := hW.p
    have hn := hW.nv (show S 0 - (d + 1) < 6 by omega)
    unfold triF
    refine Nat.le_trans (triL_bd (B := 6 ^ d) (fun k Y => ?_) _ _ _) ?_
    · show (if fit_ S m _ _ = true then _ else Y).1 ≤ _
      split
      · exact triF_bd hW d _ _ (by omega)
      · exact Nat.le_add_right _ _
    · rw [Nat.pow_succ, Nat.mul_comm (6 ^ d) 6]
      exact Nat.add_le_add_left (Nat.mul_le_mul_right _ (by omega)) _
