/-! boards: tags tell which mutable cells are whose; 0: unchanging, 15: not ours -/
set_option maxRecDepth 100000
def jlst (G : jv_G) (M : jv_M) (τ : Nat → Nat) (t a N n : Nat) (P : Nat → Nat) : Prop := ∃ (mc : Int32) (e : Nat) (f : Nat → Option Nat), M a = some (.inr (20, [.int mc, .ref e, .int (nI n)])) ∧ M e = some (.inl (G.2.2.1 1, N, .inr (.inr (.inr (.inr f))))) ∧ n ≤ N ∧ (∀ i, i < n → f i = some (P i)) ∧ (G.1 ≤ a ∧ G.1 ≤ e) ∧ τ a = t ∧ τ e = t
def jpack (G : jv_G) (M : jv_M) (τ : Nat → Nat) (t a : Nat) (S : Nat → Nat) (p : Nat) : Prop := ∃ (lv : Nat) (V : Nat → Nat), M a = some (.inr (3, [.ref lv, .int (nI (v_of S p 1))])) ∧ (G.1 ≤ a ∧ τ a = t) ∧ jlst G M τ t lv 5 (v_of S p 0) V ∧ ∀ v, v < v_of S p 0 → jver M (V v) (v_of S p (2 + v)) ∧ τ (V v) = 0
/-- a digit of a learned rule as a state -/
def sI (d : Nat) : Int32 := if d = 0 then -5 else nI (d - 1)
def jrule (G : jv_G) (M : jv_M) (τ : Nat → Nat) (S : Nat → Nat) (r a : Nat) : Prop := (τ a = 0 ∧ G.1 ≤ a) ∧
  ((v_ofRule S r 0 = 0 ∧ M a = some (.inr (5, [.int (nI (v_ofRule S r 1)), .int (-5), .int (-5), .int (nI (v_ofRule S r 4))]))) ∨
   (v_ofRule S r 0 = 1 ∧ M a = some (.inr (6, [.int (nI (v_ofRule S r 1)), .int (nI (v_ofRule S r 2)), .int (nI (v_ofRule S r 3)), .int (nI (v_ofRule S r 4))]))) ∨
   (v_ofRule S r 0 = 2 ∧ M a = some (.inr (7, [.int (nI (v_ofRule S r 1)), .int (nI (v_ofRule S r 2)), .int (nI (v_ofRule S r 3)), .int (nI (v_ofRule S r 4))]))) ∨
   (v_ofRule S r 0 = 3 ∧ ∃ (e : Nat) (f : Nat → Int32), τ e = 0 ∧ M a = some (.inr (11, [.int (-5), .int (-5), .int (-5), .int (-5), .ref e])) ∧ M e = some (.inl (G.2.2.1 0, 6, .inl f)) ∧ ∀ p, p < 6 → f p = sI (lsd S r p)))
def jasm (G : jv_G) (M : jv_M) (τ : Nat → Nat) (S : Nat → Nat) (i a : Nat) : Prop := (τ a = 0 ∧ G.1 ≤ a) ∧ M a = some (.inr (10, [.int (nI (v_asm S i 0)), .int (nI (v_asm S i 1))]))
/-- a board's lists, their cells -/
def jbl (G : jv_G) (M : jv_M) (τ : Nat → Nat) (b : Nat) (S : Nat → Nat) (lp lr la : Nat) (P R A : Nat → Nat) : Prop := M b = some (.inr (1, [.ref lp, .ref lr, .ref la])) ∧ (G.1 ≤ b ∧ τ b = 16 * (b + 1)) ∧
  (jlst G M τ (16 * (b + 1) + 1) lp 6 (S 0) P ∧ ∀ p, p < S 0 → jpack G M τ (16 * (b + 1) + 4 + p) (P p) S p) ∧
  (jlst G M τ (16 * (b + 1) + 2) lr 30 (S 1) R ∧ ∀ r, r < S 1 → jrule G M τ S r (R r)) ∧
  (jlst G M τ (16 * (b + 1) + 3) la 6 (S 2) A ∧ ∀ i, i < S 2 → jasm G M τ S i (A i))
def jbd (G : jv_G) (M : jv_M) (τ : Nat → Nat) (b : Nat) (S : Nat → Nat) : Prop := ∃ lp lr la P R A, jbl G M τ b S lp lr la P R A
/-- what is kept from a memory to the next: tags, and the cells whose tags K tells -/
def jkp (M : jv_M) (τ : Nat → Nat) (M' : jv_M) (τ' : Nat → Nat) (K : Nat → Prop) : Prop := ∀ a, M a ≠ none → τ' a = τ a ∧ (K (τ a) → M' a = M a)
theorem jkp.t {M M' : jv_M} {τ τ' : Nat → Nat} {K : Nat → Prop} (h : jkp M τ M' τ' K) {a : Nat} {e : va_E} (hm : M a = some e) : τ' a = τ a := (h a (by rw [hm]; exact nofun)).1
theorem jkp.c {M M' : jv_M} {τ τ' : Nat → Nat} {K : Nat → Prop} (h : jkp M τ M' τ' K) {a : Nat} {e : va_E} (hm : M a = some e) (hk : K (τ a)) : M' a = some e := ((h a (by rw [hm]; exact nofun)).2 hk).trans hm
theorem jkp.rf {M : jv_M} {τ : Nat → Nat} {K : Nat → Prop} : jkp M τ M τ K := fun _ _ => ⟨rfl, fun _ => rfl⟩
theorem jkp.less {M M' : jv_M} {τ τ' : Nat → Nat} {K K' : Nat → Prop} (h : jkp M τ M' τ' K) (hk : ∀ t, K' t → K t) : jkp M τ M' τ' K' := fun a ha => ⟨(h a ha).1, fun k => (h a ha).2 (hk _ k)⟩
theorem jkp.ag {M M' : jv_M} {τ : Nat → Nat} {K : Nat → Prop} (h : jag M M') : jkp M τ M' τ K := fun a ha => ⟨rfl, fun _ => h a ha⟩
/-- a cell that is known stays known -/
def jdm (M M' : jv_M) : Prop := ∀ a, M a ≠ none → M' a ≠ none
theorem jkp.tr {M M1 M2 : jv_M} {τ τ1 τ2 : Nat → Nat} {K : Nat → Prop} (h : jkp M τ M1 τ1 K) (h2 : jkp M1 τ1 M2 τ2 K) (hd : jdm M M1) : jkp M τ M2 τ2 K := fun a ha =>
  ⟨(h2 a (hd a ha)).1.trans (h a ha).1, fun k => ((h2 a (hd a ha)).2 (by rw [(h a ha).1]; exact k)).trans ((h a ha).2 k)⟩
section MV
variable {G : jv_G} {M M' : jv_M} {τ τ' : Nat → Nat} {K : Nat → Prop} {S : Nat → Nat}
theorem jlst.mv {t a N n : Nat} {P : Nat → Nat} (h : jlst G M τ t a N n P) (k : jkp M τ M' τ' K) (hK : K t) : jlst G M' τ' t a N n P := by
  obtain ⟨mc, e, f, h1, h2, h3, h4, h5, h6, h7⟩ := h
  exact ⟨mc, e, f, k.c h1 (by rw [h6]; exact hK), k.c h2 (by rw [h7]; exact hK), h3, h4, h5, (k.t h1).trans h6, (k.t h2).trans h7⟩
theorem jver.mv {a c : Nat} (h : jver M a c) (h0 : τ a = 0) (k : jkp M τ M' τ' K) (hK : K 0) : jver M' a c ∧ τ' a = 0 := ⟨k.c h (by rw [h0]; exact hK), (k.t h).trans h0⟩
theorem jpack.mv {t a p : Nat} (h : jpack G M τ t a S p) (k : jkp M τ M' τ' K) (hK : K t) (h0 : K 0) : jpack G M' τ' t a S p := by
  obtain ⟨lv, V, h1, h2, h3, h4⟩ := h
  exact ⟨lv, V, k.c h1 (by rw [h2.2]; exact hK), ⟨h2.1, (k.t h1).trans h2.2⟩, h3.mv k hK, fun v hv => (h4 v hv).1.mv (h4 v hv).2 k h0⟩
theorem jrule.mv {r a : Nat} (h : jrule G M τ S r a) (k : jkp M τ M' τ' K) (h0 : K 0) : jrule G M' τ' S r a := by
  obtain ⟨⟨ht, hg⟩, h⟩ := h
  have hk : K (τ a) := by rw [ht]; exact h0
  rcases h with ⟨h1, h2⟩ | ⟨h1, h2⟩ | ⟨h1, h2⟩ | ⟨h1, e, f, h2, h3, h4, h5⟩
  · exact ⟨⟨(k.t h2).trans ht, hg⟩, Or.inl ⟨h1, k.c h2 hk⟩⟩
  · exact ⟨⟨(k.t h2).trans ht, hg⟩, Or.inr (Or.inl ⟨h1, k.c h2 hk⟩)⟩
  · exact ⟨⟨(k.t h2).trans ht, hg⟩, Or.inr (Or.inr (Or.inl ⟨h1, k.c h2 hk⟩))⟩
  · exact ⟨⟨(k.t h3).trans ht, hg⟩, Or.inr (Or.inr (Or.inr ⟨h1, e, f, (k.t h4).trans h2, k.c h3 hk, k.c h4 (by rw [h2]; exact h0), h5⟩))⟩
theorem jasm.mv {i a : Nat} (h : jasm G M τ S i a) (k : jkp M τ M' τ' K) (h0 : K 0) : jasm G M' τ' S i a :=
  ⟨⟨(k.t h.2).trans h.1.1, h.1.2⟩, k.c h.2 (by rw [h.1.1]; exact h0)⟩
theorem jbl.mv {b lp lr la : Nat} {P R A : Nat → Nat} (h : jbl G M τ b S lp lr la P R A) (k : jkp M τ M' τ' K) (h0 : K 0) (hK : ∀ i, i < 16 → K (16 * (b + 1) + i)) (hp : S 0 ≤ 6) : jbl G M' τ' b S lp lr la P R A := by
  obtain ⟨h1, h2, ⟨h3, h4⟩, ⟨h5, h6⟩, h7, h8⟩ := h
  refine ⟨k.c h1 (by rw [h2.2]; exact hK 0 (by decide)), ⟨h2.1, (k.t h1).trans h2.2⟩, ⟨h3.mv k (hK 1 (by decide)), fun p hp' => (h4 p hp').mv k ?_ h0⟩, ⟨h5.mv k (hK 2 (by decide)), fun r hr => (h6 r hr).mv k h0⟩, h7.mv k (hK 3 (by decide)), fun i hi => (h8 i hi).mv k h0⟩
  rw [Nat.add_assoc]
  exact hK (4 + p) (by omega)
theorem jbd.mv {b : Nat} (h : jbd G M τ b S) (k : jkp M τ M' τ' K) (h0 : K 0) (hK : ∀ i, i < 16 → K (16 * (b + 1) + i)) (hp : S 0 ≤ 6) : jbd G M' τ' b S := by
  obtain ⟨lp, lr, la, P, R, A, h⟩ := h
  exact ⟨lp, lr, la, P, R, A, h.mv k h0 hK hp⟩
theorem jbl.sub {b lp lr la : Nat} {P R A : Nat → Nat} (h : jbl G M τ b S lp lr la P R A) (hM : jag M M') (hp : S 0 ≤ 6) : jbl G M' τ b S lp lr la P R A := h.mv (K := fun _ => True) (jkp.ag hM) trivial (fun _ _ => trivial) hp
theorem jbd.sub {b : Nat} (h : jbd G M τ b S) (hM : jag M M') (hp : S 0 ≤ 6) : jbd G M' τ b S := h.mv (K := fun _ => True) (jkp.ag hM) trivial (fun _ _ => trivial) hp
theorem jrule.sub {r a : Nat} (h : jrule G M τ S r a) (hM : jag M M') : jrule G M' τ S r a := h.mv (K := fun _ => True) (jkp.ag hM) trivial
theorem jpack.sub {t a p : Nat} (h : jpack G M τ t a S p) (hM : jag M M') : jpack G M' τ t a S p := h.mv (K := fun _ => True) (jkp.ag hM) trivial trivial
end MV
