/-! the trace: n steps, the conflict's package (6: none), what is left, each step's rule, package and states -/
set_option maxRecDepth 100000
abbrev t_T2 : Type := Nat × Nat × (Nat → Nat) × (Nat → Nat) × (Nat → Nat) × (Nat → Nat)
abbrev tn (T : t_T2) : Nat := T.1
abbrev tc (T : t_T2) : Nat := T.2.1
abbrev tl (T : t_T2) : Nat → Nat := T.2.2.1
abbrev tb (T : t_T2) : Nat → Nat := T.2.2.2.1
abbrev tp (T : t_T2) : Nat → Nat := T.2.2.2.2.1
abbrev tg (T : t_T2) : Nat → Nat := T.2.2.2.2.2
def ux (x : Int32) : Nat := x.toBitVec.toNat
def unv (g : Nat) : Int32 := nI g ^^^ (-1)
theorem ux_and (l : Nat) (x : Int32) : nI l &&& x = nI (l % 2 ^ 32 &&& ux x) := by
  apply Int32.toBitVec_inj.mp
  apply BitVec.eq_of_toNat_eq
  show (BitVec.ofNat 32 l &&& x.toBitVec).toNat = (BitVec.ofNat 32 (l % 2 ^ 32 &&& ux x)).toNat
  rw [BitVec.toNat_and, BitVec.toNat_ofNat, BitVec.toNat_ofNat]
  unfold ux
  exact (Nat.mod_eq_of_lt (Nat.lt_of_le_of_lt Nat.and_le_left (Nat.mod_lt _ (by decide)))).symm
theorem ux_and64 {l : Nat} (h : l < 64) (x : Int32) : nI l &&& x = nI (l &&& ux x) := by rw [ux_and, Nat.mod_eq_of_lt (by omega)]
theorem and_mod64 {l : Nat} (h : l < 64) (y : Nat) : l &&& y = l &&& (y % 64) := by
  have e : l % 2 ^ 6 = l := Nat.mod_eq_of_lt h
  conv => lhs; rw [← Nat.mod_eq_of_lt (show l &&& y < 2 ^ 6 from Nat.lt_of_le_of_lt Nat.and_le_left h), Nat.and_mod_two_pow, e]
theorem ux_unv : ∀ g, g < 64 → ux (unv g) % 64 = 63 - g := by decide +kernel
def pcn (m : Nat) : Nat := m % 2 + m / 2 % 2 + m / 4 % 2 + m / 8 % 2 + m / 16 % 2 + m / 32 % 2
theorem pcn_dn : ∀ l, l < 64 → ∀ y, y < 64 → l &&& y ≠ 0 → pcn (l &&& (63 - (l &&& y))) + 1 ≤ pcn l := by decide +kernel
theorem pcn_le : ∀ l, l < 64 → pcn l ≤ 6 := by decide +kernel
def pot (l : Nat → Nat) : Nat := pcn (l 0) + pcn (l 1) + pcn (l 2) + pcn (l 3) + pcn (l 4) + pcn (l 5)
def okT (T : t_T2) : Prop := tn T + pot (tl T) ≤ 36 ∧ (∀ p, p < 6 → tl T p < 64) ∧ tc T ≤ 6
def up2 (f : Nat → Nat) (k v : Nat) : Nat → Nat := fun j => if j = k then v else f j
/-- leaves out of package p, by who, the states of x -/
def lvT (who p : Nat) (x : Int32) (T : t_T2) : t_T2 := if tl T p &&& ux x = 0 then T else if tc T = 6 then
  (tn T + 1, (if tl T p &&& ux (unv (tl T p &&& ux x)) = 0 then p else 6), up2 (tl T) p (tl T p &&& ux (unv (tl T p &&& ux x))), up2 (tb T) (tn T) who, up2 (tp T) (tn T) p, up2 (tg T) (tn T) (tl T p &&& ux x)) else T
theorem lv_new {l : Nat} (h : l < 64) (x : Int32) : l &&& ux (unv (l &&& ux x)) = l &&& (63 - (l &&& (ux x % 64))) := by
  rw [and_mod64 h (ux (unv _)), and_mod64 h (ux x), ux_unv _ (Nat.lt_of_le_of_lt Nat.and_le_left h)]
theorem lv_dn {l : Nat} (h : l < 64) (x : Int32) (hg : ¬ (l &&& ux x) = 0) : pcn (l &&& ux (unv (l &&& ux x))) + 1 ≤ pcn l := by
  rw [lv_new h]
  rw [and_mod64 h] at hg
  exact pcn_dn l h _ (Nat.mod_lt _ (by decide)) hg
theorem pot_up {l : Nat → Nat} {p v : Nat} (hp : p < 6) (h : pcn v + 1 ≤ pcn (l p)) : pot (up2 l p v) + 1 ≤ pot l := by
  rcases (by omega : p = 0 ∨ p = 1 ∨ p = 2 ∨ p = 3 ∨ p = 4 ∨ p = 5) with rfl | rfl | rfl | rfl | rfl | rfl <;> simp [pot, up2] <;> omega
theorem okT.lt {T : t_T2} (h : okT T) {p : Nat} (hp : p < 6) {x : Int32} (hg : ¬ (tl T p &&& ux x) = 0) : tn T < 36 := by
  have h1 := lv_dn (h.2.1 p hp) x hg
  have h2 := pot_up hp h1
  have := h.1
  omega
theorem okT.lv {T : t_T2} (h : okT T) {who p : Nat} (hp : p < 6) (x : Int32) : okT (lvT who p x T) := by
  unfold lvT
  split
  · exact h
  · rename_i hg
    split
    · have h2 := pot_up hp (lv_dn (h.2.1 p hp) x hg)
      have h3 := h.1
      refine ⟨by show tn T + 1 + pot (up2 (tl T) p _) ≤ 36; omega, fun q hq => ?_, ?_⟩
      · show up2 (tl T) p _ q < 64
        unfold up2
        split
        · exact Nat.lt_of_le_of_lt Nat.and_le_left (h.2.1 p hp)
        · exact h.2.1 q hq
      · show (if _ then p else 6) ≤ 6
        split <;> omega
    · exact h
def cI (c : Nat) : Int32 := if c = 6 then -1 else nI c
theorem cI_m1 {c : Nat} (h : c ≤ 6) : cI c = -1 ↔ c = 6 := by
  rcases (by omega : c = 0 ∨ c = 1 ∨ c = 2 ∨ c = 3 ∨ c = 4 ∨ c = 5 ∨ c = 6) with rfl | rfl | rfl | rfl | rfl | rfl | rfl <;> decide
/-- the reference's fields and arrays hold the trace -/
def isT (S : Nat → Nat) (F : Nat → Int32) (A : Nat → Nat → Int32) (T : t_T2) : Prop := F 16 = nI (tn T) ∧ F 17 = cI (tc T) ∧ (∀ p, p < S 0 → A 12 p = nI (tl T p)) ∧ (∀ k, k < tn T → A 13 k = nI (tb T k)) ∧ (∀ k, k < tn T → A 14 k = nI (tp T k)) ∧ (∀ k, k < tn T → A 15 k = nI (tg T k))
/-- nothing but the trace has changed -/
def ktT (F : Nat → Int32) (A : Nat → Nat → Int32) (F' : Nat → Int32) (A' : Nat → Nat → Int32) : Prop := (∀ k, k ≠ 16 → k ≠ 17 → F' k = F k) ∧ ∀ k, k ≠ 12 → k ≠ 13 → k ≠ 14 → k ≠ 15 → A' k = A k
theorem ktT.rf {F A} : ktT F A F A := ⟨fun _ _ _ => rfl, fun _ _ _ _ _ => rfl⟩
theorem ktT.tr {F A F1 A1 F2 A2} (h1 : ktT F A F1 A1) (h2 : ktT F1 A1 F2 A2) : ktT F A F2 A2 := ⟨fun k a b => (h2.1 k a b).trans (h1.1 k a b), fun k a b c d => (h2.2 k a b c d).trans (h1.2 k a b c d)⟩
theorem ktT.S {F A F1 A1} {S : Nat → Nat} (h : ktT F A F1 A1) (hS : ∀ j, j < 237 → A 0 j = nI (S j)) : ∀ j, j < 237 → A1 0 j = nI (S j) := fun j hj => by rw [h.2 0 (by decide) (by decide) (by decide) (by decide)]; exact hS j hj
theorem mdA_s {A : Nat → Nat → Int32} {i j : Nat} {v : Int32} : mdA A i j v i j = v := by simp [mdA, va_up, upd]
theorem mdA_o {A : Nat → Nat → Int32} {i j j' : Nat} {v : Int32} (h : j' ≠ j) : mdA A i j v i j' = A i j' := by simp [mdA, va_up, upd, h]
theorem mdA_i {A : Nat → Nat → Int32} {i i' j : Nat} {v : Int32} (h : i' ≠ i) : mdA A i j v i' = A i' := by simp [mdA, va_up, h]
/-- the state behind leaves, but for the conflict -/
theorem isT_lv {S : Nat → Nat} {F : Nat → Int32} {A : Nat → Nat → Int32} {T : t_T2} {who p : Nat} {x : Int32} (h : isT S F A T) (hg : ¬ (tl T p &&& ux x) = 0) (hc : tc T = 6)
    (F' : Nat → Int32) (hf : F' 16 = nI (tn T + 1)) (hcf : F' 17 = cI (if tl T p &&& ux (unv (tl T p &&& ux x)) = 0 then p else 6)) :
    isT S F' (mdA (mdA (mdA (mdA A 13 (tn T) (nI who)) 14 (tn T) (nI p)) 15 (tn T) (nI (tl T p &&& ux x))) 12 p (nI (tl T p &&& ux (unv (tl T p &&& ux x))))) (lvT who p x T) := by
  obtain ⟨h1, h2, h3, h4, h5, h6⟩ := h
  have e : lvT who p x T = (tn T + 1, (if tl T p &&& ux (unv (tl T p &&& ux x)) = 0 then p else 6), up2 (tl T) p (tl T p &&& ux (unv (tl T p &&& ux x))), up2 (tb T) (tn T) who, up2 (tp T) (tn T) p, up2 (tg T) (tn T) (tl T p &&& ux x)) := by
    unfold lvT; rw [if_neg hg, if_pos hc]
  rw [e]
  refine ⟨hf, hcf, fun q hq => ?_, fun k hk => ?_, fun k hk => ?_, fun k hk => ?_⟩
  · show _ = nI (up2 (tl T) p _ q)
    unfold up2
    by_cases hqp : q = p
    · rw [if_pos hqp, hqp, mdA_s]
    · rw [if_neg hqp, mdA_o hqp, mdA_i (by decide), mdA_i (by decide), mdA_i (by decide)]
      exact h3 q hq
  · show _ = nI (up2 (tb T) (tn T) who k)
    unfold up2
    rw [mdA_i (by decide), mdA_i (by decide), mdA_i (by decide)]
    by_cases hqp : k = tn T
    · rw [if_pos hqp, hqp, mdA_s]
    · rw [if_neg hqp, mdA_o hqp]
      exact h4 k (by have : k < tn T + 1 := hk; omega)
  · show _ = nI (up2 (tp T) (tn T) p k)
    unfold up2
    rw [mdA_i (by decide), mdA_i (by decide)]
    by_cases hqp : k = tn T
    · rw [if_pos hqp, hqp, mdA_s]
    · rw [if_neg hqp, mdA_o hqp, mdA_i (by decide)]
      exact h5 k (by have : k < tn T + 1 := hk; omega)
  · show _ = nI (up2 (tg T) (tn T) _ k)
    unfold up2
    rw [mdA_i (by decide)]
    by_cases hqp : k = tn T
    · rw [if_pos hqp, hqp, mdA_s]
    · rw [if_neg hqp, mdA_o hqp, mdA_i (by decide), mdA_i (by decide)]
      exact h6 k (by have : k < tn T + 1 := hk; omega)
theorem ktT_lv {F : Nat → Int32} {A : Nat → Nat → Int32} {F' : Nat → Int32} {j0 j1 j2 j3 : Nat} {v0 v1 v2 v3 : Int32} (hF : ∀ k, k ≠ 16 → k ≠ 17 → F' k = F k) : ktT F A F' (mdA (mdA (mdA (mdA A 13 j0 v0) 14 j1 v1) 15 j2 v2) 12 j3 v3) :=
  ⟨hF, fun k a b c d => by rw [mdA_i a, mdA_i d, mdA_i c, mdA_i b]⟩
/-- a tie's two leaves: p's version own is barred or o's states x are -/
def tie1x (r p o own : Nat) (x : Int32) (T : t_T2) : t_T2 := if tl T p = own then lvT r o x T else T
def tieT (r p o own : Nat) (x : Int32) (T : t_T2) : t_T2 := if tl (tie1x r p o own x T) o &&& ux (x ^^^ (-1)) = 0 then lvT r p (nI own) (tie1x r p o own x T) else tie1x r p o own x T
def barX (S : Nat → Nat) (r : Nat) : Int32 := if v_ofRule S r 0 = 1 then nI (cov S (v_ofRule S r 3) (v_ofRule S r 4)) ^^^ (-1) else nI (cov S (v_ofRule S r 3) (v_ofRule S r 4))
def isN (S : Nat → Nat) (r : Nat) (T : t_T2) (p : Nat) : Nat → Bool
  | 0 => if lsd S r p = 0 then false else true
  | q + 1 => if isN S r T p q = true then (if q = p then true else (if lsd S r q = 0 then true else (if tl T q = 2 ^ (lsd S r q - 1) then true else false))) else false
def aplF (S : Nat → Nat) (r : Nat) (T : t_T2) : Nat → Nat → t_T2
  | 0, _ => T
  | d + 1, p => if isN S r T p (S 0) = true then lvT r p (nI (2 ^ (lsd S r p - 1))) T else aplF S r T d (p + 1)
def aplT (S : Nat → Nat) (r : Nat) (T : t_T2) : t_T2 := aplF S r T (S 0) 0
theorem aplF_s {S : Nat → Nat} {r : Nat} {T : t_T2} {d p : Nat} (h : 0 < d) : aplF S r T d p = if isN S r T p (S 0) = true then lvT r p (nI (2 ^ (lsd S r p - 1))) T else aplF S r T (d - 1) (p + 1) := by
  obtain ⟨d, rfl⟩ : ∃ e, d = e + 1 := ⟨d - 1, by omega⟩
  rfl
theorem isN_d {S : Nat → Nat} {r : Nat} {T : t_T2} {p : Nat} : ∀ {n : Nat}, isN S r T p n = true → ¬ lsd S r p = 0
  | 0, h => by
    unfold isN at h
    split at h
    · cases h
    · assumption
  | n + 1, h => by
    unfold isN at h
    split at h
    · exact isN_d (by assumption)
    · cases h
/-- one rule is applied -/
def appT (S : Nat → Nat) (r : Nat) (T : t_T2) : t_T2 := if v_ofRule S r 0 = 0 then lvT r (v_ofRule S r 1) (nI (cov S (v_ofRule S r 1) (v_ofRule S r 4)) ^^^ (-1)) T
  else if v_ofRule S r 0 = 3 then aplT S r T else tieT r (v_ofRule S r 1) (v_ofRule S r 3) (2 ^ v_ofRule S r 2) (barX S r) T
theorem okT.tie1 {r p o own : Nat} {x : Int32} {T : t_T2} (h : okT T) (ho : o < 6) : okT (tie1x r p o own x T) := by
  unfold tie1x
  split
  · exact h.lv ho _
  · exact h
theorem okT.tie {r p o own : Nat} {x : Int32} {T : t_T2} (h : okT T) (hp : p < 6) (ho : o < 6) : okT (tieT r p o own x T) := by
  unfold tieT
  split
  · exact (h.tie1 ho).lv hp _
  · exact h.tie1 ho
theorem okT.apl {S : Nat → Nat} {r : Nat} {T : t_T2} (h : okT T) : ∀ (d p : Nat), p + d ≤ 6 → okT (aplF S r T d p)
  | 0, _, _ => h
  | d + 1, p, hp => by
    unfold aplF
    split
    · exact h.lv (by omega) _
    · exact h.apl d (p + 1) (by omega)
theorem okT.app {S : Nat → Nat} (hW : wfB S) {r : Nat} (hr : r < 30) {T : t_T2} (h : okT T) : okT (appT S r T) := by
  unfold appT
  split
  · exact h.lv (hW.r1 hr) _
  · split
    · exact h.apl _ _ (by have := hW.p; omega)
    · exact h.tie (hW.r1 hr) (hW.r3 hr)
theorem lvT_n {who p : Nat} {x : Int32} {T : t_T2} : tn (lvT who p x T) = tn T ∧ lvT who p x T = T ∨ tn (lvT who p x T) = tn T + 1 := by
  unfold lvT
  split
  · exact Or.inl ⟨rfl, rfl⟩
  · split
    · exact Or.inr rfl
    · exact Or.inl ⟨rfl, rfl⟩
/-- round by round, until so many rules have been quiet or there is a conflict -/
def folN (S : Nat → Nat) : Nat → Nat → Nat → t_T2 → t_T2
  | 0, _, _, T => T
  | d + 1, q, r, T => if tc T = 6 then (if S 1 ≤ q then T else folN S d (if tn (appT S r T) = tn T then q + 1 else 0) ((r + 1) % S 1) (appT S r T)) else T
def folM (S : Nat → Nat) (q : Nat) (T : t_T2) : Nat := (36 - tn T) * (S 1 + 1) + (S 1 - q)
theorem app_n {S : Nat → Nat} {r : Nat} {T : t_T2} : tn T ≤ tn (appT S r T) := by
  have hl : ∀ who p x T, tn T ≤ tn (lvT who p x T) := fun who p x T => by rcases lvT_n (who := who) (p := p) (x := x) (T := T) with h | h <;> omega
  have hA : ∀ d p, tn T ≤ tn (aplF S r T d p) := by
    intro d
    induction d with
    | zero => intro p; exact Nat.le_refl _
    | succ d ih => intro p; unfold aplF; split; exact hl _ _ _ _; exact ih _
  unfold appT
  split
  · exact hl _ _ _ _
  · split
    · exact hA _ _
    · have h1 : ∀ p o own x, tn T ≤ tn (tie1x r p o own x T) := fun p o own x => by unfold tie1x; split; exact hl _ _ _ _; exact Nat.le_refl _
      unfold tieT
      split
      · exact Nat.le_trans (h1 _ _ _ _) (hl _ _ _ _)
      · exact h1 _ _ _ _
theorem folM_dn {S : Nat → Nat} {q r : Nat} {T : t_T2} (h : okT (appT S r T)) (hq : q < S 1) : folM S (if tn (appT S r T) = tn T then q + 1 else 0) (appT S r T) < folM S q T := by
  have h1 := app_n (S := S) (r := r) (T := T)
  have h2 := h.1
  unfold folM
  split
  · rename_i e; rw [e]; omega
  · have h3 : 36 - tn T = 36 - tn (appT S r T) + (tn (appT S r T) - tn T) := by omega
    rw [h3, Nat.add_mul]
    have : 1 * (S 1 + 1) ≤ (tn (appT S r T) - tn T) * (S 1 + 1) := Nat.mul_le_mul_right _ (by omega)
    omega
theorem folN_s {S : Nat → Nat} {d q r : Nat} {T : t_T2} (h : 0 < d) : folN S d q r T = if tc T = 6 then (if S 1 ≤ q then T else folN S (d - 1) (if tn (appT S r T) = tn T then q + 1 else 0) ((r + 1) % S 1) (appT S r T)) else T := by
  obtain ⟨d, rfl⟩ : ∃ e, d = e + 1 := ⟨d - 1, by omega⟩
  rfl
def folT (S : Nat → Nat) (T : t_T2) : t_T2 := folN S 1200 0 0 T
theorem folM_0 {S : Nat → Nat} (hW : wfB S) (T : t_T2) : folM S 0 T < 1200 := by
  unfold folM
  have h := hW.r
  have : (36 - tn T) * (S 1 + 1) ≤ 36 * 31 := Nat.mul_le_mul (by omega) (by omega)
  omega
theorem okT.fol {S : Nat → Nat} (hW : wfB S) : ∀ (d q r : Nat) (T : t_T2), okT T → (0 < S 1 → r < S 1) → okT (folN S d q r T)
  | 0, _, _, _, h, _ => h
  | d + 1, q, r, T, h, hr => by
    unfold folN
    split
    · split
      · exact h
      · rename_i hq
        have hr1 := hr (by omega)
        exact okT.fol hW d _ _ _ (h.app hW (by have := hW.r; omega)) (fun _ => Nat.mod_lt _ (by omega))
    · exact h
/-- all that is left at the start -/
def t0T (S : Nat → Nat) : t_T2 := (0, 6, fun p => if p < S 0 then v_allStates S p else 0, fun _ => 0, fun _ => 0, fun _ => 0)
/-- the assumptions of a set, one after the other -/
def goN (S : Nat → Nat) (m : Int32) : Nat → Nat → t_T2 → t_T2
  | 0, _, T => T
  | d + 1, a, T => if tc T = 6 then goN S m d (a + 1) (if (m >>> (nI a &&& 31)) &&& nI 1 = nI 1 then folT S (lvT (100 + a) (v_asm S a 0) (unv (2 ^ v_asm S a 1)) T) else T) else T
def goT (S : Nat → Nat) (m : Int32) : t_T2 := goN S m (S 2) 0 (folT S (t0T S))
/-- rules and assumptions speak of packages that are there -/
def wfS (S : Nat → Nat) : Prop := wfB S ∧ (∀ r, r < S 1 → v_ofRule S r 1 < S 0 ∧ v_ofRule S r 3 < S 0) ∧ (∀ a, a < S 2 → v_asm S a 0 < S 0) ∧ ∀ a b, a < b → b < S 2 → v_asm S a 0 ≠ v_asm S b 0
theorem okT.t0 {S : Nat → Nat} (hW : wfB S) : okT (t0T S) := by
  have h64 : ∀ p, p < 6 → tl (t0T S) p < 64 := fun p hp => by
    show (if p < S 0 then v_allStates S p else 0) < 64
    split
    · exact v_allStates_lt hW hp
    · decide
  have h := fun p hp => pcn_le _ (h64 p hp)
  refine ⟨?_, h64, Nat.le_refl _⟩
  have h0 := h 0 (by decide); have h1 := h 1 (by decide); have h2 := h 2 (by decide); have h3 := h 3 (by decide); have h4 := h 4 (by decide); have h5 := h 5 (by decide)
  show 0 + pot (tl (t0T S)) ≤ 36
  unfold pot
  omega
theorem goN_s {S : Nat → Nat} {m : Int32} {d a : Nat} {T : t_T2} (h : 0 < d) : goN S m d a T = if tc T = 6 then goN S m (d - 1) (a + 1) (if (m >>> (nI a &&& 31)) &&& nI 1 = nI 1 then folT S (lvT (100 + a) (v_asm S a 0) (unv (2 ^ v_asm S a 1)) T) else T) else T := by
  obtain ⟨d, rfl⟩ : ∃ e, d = e + 1 := ⟨d - 1, by omega⟩
  rfl
theorem okT.foT {S : Nat → Nat} (hW : wfB S) {T : t_T2} (h : okT T) : okT (folT S T) := okT.fol hW _ _ _ _ h (fun z => z)
theorem cI_lt {c : Nat} (h : c < 6) : cI c = nI c := if_neg (by omega)
def mT (G : jv_G) (o : md_O) (S : Nat → Nat) (F : Nat → Int32) (A : Nat → Nat → Int32) (T : t_T2) : jv_M → Prop := fun M' => ∃ F' A', M' = md_M G o F' A' ∧ isT S F' A' T ∧ ktT F A F' A'
theorem okT.gon {S : Nat → Nat} (hW : wfB S) (m : Int32) : ∀ (d a : Nat) (T : t_T2), okT T → a + d ≤ 6 → okT (goN S m d a T)
  | 0, _, _, h, _ => h
  | d + 1, a, T, h, ha => by
    unfold goN
    split
    · refine okT.gon hW m d (a + 1) _ ?_ (by omega)
      split
      · exact okT.foT hW (h.lv (hW.a0 (by omega)) _)
      · exact h
    · exact h
theorem okT.got {S : Nat → Nat} (hW : wfB S) (m : Int32) : okT (goT S m) := okT.gon hW m _ _ _ (okT.foT hW (okT.t0 hW)) (by have := hW.a; omega)
def gA (S : Nat → Nat) : t_T2 := goT S (nI 63)
theorem okT.ga {S : Nat → Nat} (hW : wfB S) : okT (gA S) := okT.got hW (nI 63)
