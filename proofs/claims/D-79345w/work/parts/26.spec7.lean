/-! solutions: whether rules hold, what is reached, the search -/
set_option maxRecDepth 100000
/-- a learned rule speaks of packages that are there, and of one at least -/
def wfL (S : Nat → Nat) : Prop := ∀ r, r < S 1 → v_ofRule S r 0 = 3 → (∃ q, q < S 0 ∧ ¬ lsd S r q = 0) ∧ ∀ q, S 0 ≤ q → lsd S r q = 0
def hldN (S : Nat → Nat) (r : Nat) (c : Nat → Nat) : Nat → Nat → Bool
  | 0, _ => false
  | d + 1, p => if lsd S r p = 0 then hldN S r c d (p + 1) else (if lsd S r p - 1 = c p then hldN S r c d (p + 1) else true)
theorem hldN_s {S : Nat → Nat} {r : Nat} {c : Nat → Nat} {d p : Nat} (h : 0 < d) : hldN S r c d p = if lsd S r p = 0 then hldN S r c (d - 1) (p + 1) else (if lsd S r p - 1 = c p then hldN S r c (d - 1) (p + 1) else true) := by
  obtain ⟨d, rfl⟩ : ∃ e, d = e + 1 := ⟨d - 1, by omega⟩
  rfl
/-- the package whose states a rule's range tells -/
def rgp (S : Nat → Nat) (r : Nat) : Nat := if v_ofRule S r 0 = 0 then v_ofRule S r 1 else v_ofRule S r 3
def hbit (S : Nat → Nat) (r : Nat) (c : Nat → Nat) : Bool := if cov S (rgp S r) (v_ofRule S r 4) / 2 ^ c (rgp S r) &&& 1 = 1 then true else false
def hld (S : Nat → Nat) (r : Nat) (c : Nat → Nat) : Bool := if v_ofRule S r 0 = 3 then hldN S r c (S 0) 0 else (if v_ofRule S r 0 = 0 then hbit S r c else (if c (v_ofRule S r 1) = v_ofRule S r 2 then (if hbit S r c = (if v_ofRule S r 0 = 1 then true else false) then true else false) else true))
def lastN (S : Nat → Nat) (r : Nat) : Nat → Nat
  | 0 => 0
  | p + 1 => if lsd S r (p + 1) = 0 then lastN S r p else p + 1
def lst_ (S : Nat → Nat) (r : Nat) : Nat := if v_ofRule S r 0 = 3 then lastN S r 5 else (if v_ofRule S r 0 = 0 then v_ofRule S r 1 else (if v_ofRule S r 1 ≤ v_ofRule S r 3 then v_ofRule S r 3 else v_ofRule S r 1))
theorem lastN_le (S : Nat → Nat) (r : Nat) : ∀ n, lastN S r n ≤ n
  | 0 => Nat.le_refl _
  | n + 1 => by
    unfold lastN
    split
    · exact Nat.le_trans (lastN_le S r n) (by omega)
    · exact Nat.le_refl _
theorem lastN_ge {S : Nat → Nat} {r q : Nat} (h : ¬ lsd S r q = 0) : ∀ {n : Nat}, q ≤ n → q ≤ lastN S r n
  | 0, hq => by unfold lastN; omega
  | n + 1, hq => by
    unfold lastN
    by_cases e : q = n + 1
    · rw [if_neg (e ▸ h)]; omega
    · split
      · exact lastN_ge h (by omega)
      · omega
theorem lastN_at {S : Nat → Nat} {r n : Nat} (h : ¬ lsd S r n = 0) : lastN S r n = n := by
  cases n with
  | zero => rfl
  | succ n => unfold lastN; rw [if_neg h]
theorem lastN_dn {S : Nat → Nat} {r n : Nat} (h0 : 1 ≤ n) (h : lsd S r n = 0) : lastN S r n = lastN S r (n - 1) := by
  obtain ⟨m, rfl⟩ : ∃ m, n = m + 1 := ⟨n - 1, by omega⟩
  show (if lsd S r (m + 1) = 0 then lastN S r m else m + 1) = _
  rw [if_pos h]; rfl
/-- of which packages a rule speaks, its last is the greatest -/
theorem lst_ge {S : Nat → Nat} {r : Nat} : (v_ofRule S r 0 = 3 → ∀ q, q < 6 → ¬ lsd S r q = 0 → q ≤ lst_ S r) ∧ (¬ v_ofRule S r 0 = 3 → v_ofRule S r 1 ≤ lst_ S r ∧ rgp S r ≤ lst_ S r) := by
  refine ⟨fun h q hq hd => ?_, fun h => ?_⟩
  · unfold lst_; rw [if_pos h]; exact lastN_ge hd (by omega)
  · unfold lst_ rgp; rw [if_neg h]
    split
    · omega
    · split <;> omega
/-- one rule's part in what is reached -/
def rch1 (S : Nat → Nat) (c : Nat → Nat) (m : Int32) (r w : Nat) : Nat := if (m >>> (nI r &&& 31)) &&& nI 1 = nI 1 then
  (if v_ofRule S r 0 = 0 then w ||| 2 ^ v_ofRule S r 1 else (if v_ofRule S r 0 = 1 then (if w / 2 ^ v_ofRule S r 1 &&& 1 = 1 then (if c (v_ofRule S r 1) = v_ofRule S r 2 then w ||| 2 ^ v_ofRule S r 3 else w) else w) else w)) else w
def rchR (S : Nat → Nat) (c : Nat → Nat) (m : Int32) : Nat → Nat → Nat
  | 0, w => w
  | r + 1, w => rch1 S c m r (rchR S c m r w)
def rchT (S : Nat → Nat) (c : Nat → Nat) (m : Int32) : Nat → Nat
  | 0 => 0
  | t + 1 => rchR S c m (S 1) (rchT S c m t)
def unrN (c : Nat → Nat) (w : Nat) : Nat → Nat → Int32
  | 0, _ => -1
  | d + 1, p => if c p = 5 then unrN c w d (p + 1) else (if w / 2 ^ p &&& 1 = 0 then nI p else unrN c w d (p + 1))
theorem unrN_s {c : Nat → Nat} {w d p : Nat} (h : 0 < d) : unrN c w d p = if c p = 5 then unrN c w (d - 1) (p + 1) else (if w / 2 ^ p &&& 1 = 0 then nI p else unrN c w (d - 1) (p + 1)) := by
  obtain ⟨d, rfl⟩ : ∃ e, d = e + 1 := ⟨d - 1, by omega⟩
  rfl
def unr (S : Nat → Nat) (c : Nat → Nat) (m : Int32) : Int32 := unrN c (rchT S c m (S 0 + 1)) (S 0) 0
theorem rch1_lt {S : Nat → Nat} {c : Nat → Nat} {m : Int32} {r w : Nat} (h1 : v_ofRule S r 1 < 6) (h3 : v_ofRule S r 3 < 6) (hw : w < 64) : rch1 S c m r w < 64 := by
  have p1 : 2 ^ v_ofRule S r 1 < 2 ^ 6 := Nat.pow_lt_pow_right (by decide) h1
  have p3 : 2 ^ v_ofRule S r 3 < 2 ^ 6 := Nat.pow_lt_pow_right (by decide) h3
  have o1 := Nat.or_lt_two_pow (n := 6) hw p1
  have o3 := Nat.or_lt_two_pow (n := 6) hw p3
  unfold rch1
  repeat' split
  all_goals omega
theorem rchR_lt {S : Nat → Nat} (hW : wfB S) {c : Nat → Nat} {m : Int32} : ∀ {r w : Nat}, r ≤ 30 → w < 64 → rchR S c m r w < 64
  | 0, _, _, h => h
  | r + 1, w, hr, h => rch1_lt (hW.r1 (by omega)) (hW.r3 (by omega)) (rchR_lt hW (by omega) h)
theorem rchT_lt {S : Nat → Nat} (hW : wfB S) {c : Nat → Nat} {m : Int32} : ∀ {t : Nat}, rchT S c m t < 64
  | 0 => by unfold rchT; decide
  | t + 1 => rchR_lt hW hW.r (rchT_lt hW)
def asaN (S : Nat → Nat) (p : Nat) (c : Nat → Nat) : Nat → Bool
  | 0 => true
  | a + 1 => asaN S p c a && (if v_asm S a 0 = p then (if v_asm S a 1 = c p then true else false) else true)
theorem asaN_f {S : Nat → Nat} {p a : Nat} {c : Nat → Nat} (e : v_asm S a 0 = p) (h : ¬ v_asm S a 1 = c p) : ∀ {n : Nat}, a < n → asaN S p c n = false
  | 0, hn => absurd hn (Nat.not_lt_zero _)
  | n + 1, hn => by
    unfold asaN
    rcases Nat.lt_or_ge a n with h1 | h1
    · rw [asaN_f e h h1]; rfl
    · rw [show n = a by omega, if_pos e, if_neg h, Bool.and_false]
def fit1 (S : Nat → Nat) (m : Int32) (p : Nat) (c : Nat → Nat) (r : Nat) : Bool := if (m >>> (nI r &&& 31)) &&& nI 1 = 0 then true else (if lst_ S r = p then (if hld S r c = true then true else false) else true)
def fitN (S : Nat → Nat) (m : Int32) (p : Nat) (c : Nat → Nat) : Nat → Bool
  | 0 => asaN S p c (S 2)
  | r + 1 => if fitN S m p c r = true then fit1 S m p c r else false
theorem fitN_f {S : Nat → Nat} {m : Int32} {p : Nat} {c : Nat → Nat} {r : Nat} (h : fitN S m p c r = false) : ∀ {n : Nat}, r ≤ n → fitN S m p c n = false
  | 0, hn => by rw [show r = 0 by omega] at h; exact h
  | n + 1, hn => by
    by_cases e : r = n + 1
    · rw [← e]; exact h
    · unfold fitN; rw [fitN_f h (show r ≤ n by omega)]; rfl
def fit_ (S : Nat → Nat) (m : Int32) (p : Nat) (c : Nat → Nat) : Bool := fitN S m p c (S 1)
def rkN (S : Nat → Nat) (p k : Nat) : Nat → Nat → Nat
  | 0, _ => 5
  | d + 1, v => if bef S p v + 1 = v_of S p 0 - k then v else rkN S p k d (v + 1)
theorem rkN_s {S : Nat → Nat} {p k d v : Nat} (h : 0 < d) : rkN S p k d v = if bef S p v + 1 = v_of S p 0 - k then v else rkN S p k (d - 1) (v + 1) := by
  obtain ⟨d, rfl⟩ : ∃ e, d = e + 1 := ⟨d - 1, by omega⟩
  rfl
def rk (S : Nat → Nat) (p k : Nat) : Nat := rkN S p k (v_of S p 0) 0
theorem rkN_le {S : Nat → Nat} {p k : Nat} : ∀ {d v : Nat}, v + d ≤ 5 → rkN S p k d v ≤ 5
  | 0, _, _ => Nat.le_refl _
  | d + 1, v, h => by
    unfold rkN
    split
    · omega
    · exact rkN_le (by omega)
theorem rk_le {S : Nat → Nat} (hW : wfB S) {p k : Nat} (hp : p < 6) : rk S p k ≤ 5 := rkN_le (by have := hW.nv hp; omega)
/-- how many are found; the first one's states; each package's states -/
abbrev t_Y : Type := Nat × (Nat → Nat) × (Nat → Nat)
def lfY (c : Nat → Nat) (Y : t_Y) : t_Y := (Y.1 + 1, (if Y.1 = 0 then c else Y.2.1), fun q => Y.2.2 q ||| 2 ^ c q)
def triL (step : Nat → t_Y → t_Y) (most : Nat) : Nat → Nat → t_Y → t_Y
  | 0, _, Y => Y
  | e + 1, k, Y => if Y.1 < most then triL step most e (k + 1) (step k Y) else Y
theorem triL_s {step : Nat → t_Y → t_Y} {most e k : Nat} {Y : t_Y} (h : 0 < e) : triL step most e k Y = if Y.1 < most then triL step most (e - 1) (k + 1) (step k Y) else Y := by
  obtain ⟨e, rfl⟩ : ∃ f, e = f + 1 := ⟨e - 1, by omega⟩
  rfl
def triF (S : Nat → Nat) (m : Int32) (most : Nat) : Nat → (Nat → Nat) → t_Y → t_Y
  | 0, c, Y => if unr S c m = -1 then lfY c Y else Y
  | d + 1, c, Y => triL (fun k Y => if fit_ S m (S 0 - (d + 1)) (up2 c (S 0 - (d + 1)) (rk S (S 0 - (d + 1)) k)) = true then triF S m most d (up2 c (S 0 - (d + 1)) (rk S (S 0 - (d + 1)) k)) Y else Y) most (v_of S (S 0 - (d + 1)) 0 + 1) 0 Y
def solY (S : Nat → Nat) (m : Int32) (most : Nat) : t_Y := triF S m most (S 0) (fun _ => 0) (0, (fun _ => 0), fun _ => 0)
def isY (S : Nat → Nat) (F : Nat → Int32) (A : Nat → Nat → Int32) (Y : t_Y) : Prop := F 21 = nI Y.1 ∧ (¬ Y.1 = 0 → ∀ q, q < S 0 → A 19 q = nI (Y.2.1 q)) ∧ ∀ q, q < S 0 → A 20 q = nI (Y.2.2 q)
def ktY (p : Nat) (F : Nat → Int32) (A : Nat → Nat → Int32) (F' : Nat → Int32) (A' : Nat → Nat → Int32) : Prop := (∀ k, k ≠ 21 → F' k = F k) ∧ (∀ k, k ≠ 18 → k ≠ 19 → k ≠ 20 → A' k = A k) ∧ ∀ q, q < p → A' 18 q = A 18 q
theorem ktY.rf {p F A} : ktY p F A F A := ⟨fun _ _ => rfl, fun _ _ _ _ => rfl, fun _ _ => rfl⟩
theorem ktY.tr {p F A F1 A1 F2 A2} (h1 : ktY p F A F1 A1) (h2 : ktY p F1 A1 F2 A2) : ktY p F A F2 A2 := ⟨fun k a => (h2.1 k a).trans (h1.1 k a), fun k a b c => (h2.2.1 k a b c).trans (h1.2.1 k a b c), fun q hq => (h2.2.2 q hq).trans (h1.2.2 q hq)⟩
theorem ktY.less {p q F A F1 A1} (h : ktY p F A F1 A1) (hq : q ≤ p) : ktY q F A F1 A1 := ⟨h.1, h.2.1, fun i hi => h.2.2 i (by omega)⟩
theorem ktY.S {p F A F1 A1} {S : Nat → Nat} (h : ktY p F A F1 A1) (hS : ∀ j, j < 237 → A 0 j = nI (S j)) : ∀ j, j < 237 → A1 0 j = nI (S j) := fun j hj => by rw [h.2.1 0 (by decide) (by decide) (by decide)]; exact hS j hj
