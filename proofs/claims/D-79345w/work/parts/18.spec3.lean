/-! what steps rest on; proofs -/
set_option maxRecDepth 100000
/-- each step's rule or assumption is there, and its package -/
def wfT (S : Nat → Nat) (T : t_T2) : Prop := ∀ k, k < tn T → (tb T k < S 1 ∨ (100 ≤ tb T k ∧ tb T k < 106)) ∧ tp T k < S 0 ∧ tg T k < 64
theorem wfT.lv {S : Nat → Nat} {T : t_T2} (h : wfT S T) (hk : okT T) (hS0 : S 0 ≤ 6) {who p : Nat} (hw : who < S 1 ∨ (100 ≤ who ∧ who < 106)) (hp : p < S 0) (x : Int32) : wfT S (lvT who p x T) := by
  unfold lvT
  split
  · exact h
  · split
    · intro k hk2
      have hk2 : k < tn T + 1 := hk2
      show (up2 (tb T) (tn T) who k < S 1 ∨ (100 ≤ up2 (tb T) (tn T) who k ∧ up2 (tb T) (tn T) who k < 106)) ∧ up2 (tp T) (tn T) p k < S 0 ∧ up2 (tg T) (tn T) _ k < 64
      unfold up2
      by_cases e : k = tn T
      · rw [if_pos e, if_pos e, if_pos e]
        exact ⟨hw, hp, Nat.lt_of_le_of_lt Nat.and_le_left (hk.2.1 p (by omega))⟩
      · rw [if_neg e, if_neg e, if_neg e]
        exact h k (by omega)
    · exact h
theorem wfT.ti1 {S : Nat → Nat} {T : t_T2} (h : wfT S T) (hk : okT T) (hS0 : S 0 ≤ 6) {r p o own : Nat} {x : Int32} (hr : r < S 1) (ho : o < S 0) : wfT S (tie1x r p o own x T) := by
  unfold tie1x
  split
  · exact h.lv hk hS0 (Or.inl hr) ho _
  · exact h
theorem wfT.tie {S : Nat → Nat} {T : t_T2} (h : wfT S T) (hk : okT T) (hS0 : S 0 ≤ 6) {r p o own : Nat} {x : Int32} (hr : r < S 1) (hp : p < S 0) (ho : o < S 0) : wfT S (tieT r p o own x T) := by
  unfold tieT
  split
  · exact (h.ti1 hk hS0 hr ho).lv (hk.tie1 (by omega)) hS0 (Or.inl hr) hp _
  · exact h.ti1 hk hS0 hr ho
theorem wfT.apl {S : Nat → Nat} {r : Nat} {T : t_T2} (h : wfT S T) (hk : okT T) (hS0 : S 0 ≤ 6) (hr : r < S 1) : ∀ (d p : Nat), p + d ≤ S 0 → wfT S (aplF S r T d p)
  | 0, _, _ => h
  | d + 1, p, hp => by
    unfold aplF
    split
    · exact h.lv hk hS0 (Or.inl hr) (by omega) _
    · exact h.apl hk hS0 hr d (p + 1) (by omega)
theorem wfT.app {S : Nat → Nat} (hW : wfS S) {r : Nat} (hr : r < S 1) {T : t_T2} (h : wfT S T) (hk : okT T) : wfT S (appT S r T) := by
  unfold appT
  split
  · exact h.lv hk hW.1.p (Or.inl hr) (hW.2.1 r hr).1 _
  · split
    · exact h.apl hk hW.1.p hr _ _ (by omega)
    · exact h.tie hk hW.1.p hr (hW.2.1 r hr).1 (hW.2.1 r hr).2
theorem wfT.fol {S : Nat → Nat} (hW : wfS S) : ∀ (d q r : Nat) (T : t_T2), wfT S T → okT T → (0 < S 1 → r < S 1) → wfT S (folN S d q r T)
  | 0, _, _, _, h, _, _ => h
  | d + 1, q, r, T, h, hk, hr => by
    unfold folN
    split
    · split
      · exact h
      · rename_i hq
        have hr1 := hr (by omega)
        exact wfT.fol hW d _ _ _ (h.app hW hr1 hk) (hk.app hW.1 (by have := hW.1.r; omega)) (fun _ => Nat.mod_lt _ (by omega))
    · exact h
theorem wfT.foT {S : Nat → Nat} (hW : wfS S) {T : t_T2} (h : wfT S T) (hk : okT T) : wfT S (folT S T) := wfT.fol hW _ _ _ _ h hk (fun z => z)
theorem wfT.gon {S : Nat → Nat} (hW : wfS S) (m : Int32) : ∀ (d a : Nat) (T : t_T2), wfT S T → okT T → a + d ≤ S 2 → wfT S (goN S m d a T)
  | 0, _, _, h, _, _ => h
  | d + 1, a, T, h, hk, ha => by
    have h2 := hW.1.a
    unfold goN
    split
    · split
      · refine wfT.gon hW m d (a + 1) _ (wfT.foT hW (h.lv hk hW.1.p (Or.inr ⟨by omega, by omega⟩) (hW.2.2.1 a (by omega)) _) (hk.lv (hW.1.a0 (by omega)) _)) (okT.foT hW.1 (hk.lv (hW.1.a0 (by omega)) _)) (by omega)
      · exact wfT.gon hW m d (a + 1) _ h hk (by omega)
    · exact h
theorem wfT.got {S : Nat → Nat} (hW : wfS S) (m : Int32) : wfT S (goT S m) := wfT.gon hW m _ _ _ (wfT.foT hW (fun k hk => absurd hk (Nat.not_lt_zero _)) (okT.t0 hW.1)) (okT.foT hW.1 (okT.t0 hW.1)) (by omega)
/-- whether step i rests on step k -/
def v_rests (S : Nat → Nat) (T : t_T2) (i k : Nat) : Bool := if 100 ≤ tb T i then false else (if tp T k = tp T i then false else (if v_ofRule S (tb T i) 0 = 3 then (if lsd S (tb T i) (tp T k) = 0 then false else true) else (if v_ofRule S (tb T i) 0 = 0 then false else (if tp T k = v_ofRule S (tb T i) 1 then true else (if tp T k = v_ofRule S (tb T i) 3 then true else false)))))
/-- of the steps from j on: whether one of a set rests on k -/
def prI (S : Nat → Nat) (T : t_T2) (m k : Nat) : Nat → Bool
  | 0 => if tp T k = tc T then true else false
  | d + 1 => if prI S T m k d = true then true else (if m / 2 ^ (k + 1 + d) % 2 = 1 then (if v_rests S T (k + 1 + d) k = true then true else false) else false)
/-- the proof's steps, the latest d looked at -/
def prN (S : Nat → Nat) (T : t_T2) : Nat → Nat
  | 0 => 0
  | d + 1 => prN S T d ||| (if prI S T (prN S T d) (tn T - 1 - d) d = true then 2 ^ (tn T - 1 - d) else 0)
def prT (S : Nat → Nat) (T : t_T2) : Nat := if tc T = 6 then 0 else prN S T (tn T)
theorem prN_lt (S : Nat → Nat) (T : t_T2) : ∀ d, d ≤ tn T → prN S T d < 2 ^ tn T
  | 0, _ => Nat.two_pow_pos _
  | d + 1, hd => by
    unfold prN
    refine Nat.or_lt_two_pow (prN_lt S T d (by omega)) ?_
    split
    · exact Nat.pow_lt_pow_right (by decide) (by omega)
    · exact Nat.two_pow_pos _
def cntN (m : Nat) : Nat → Nat
  | 0 => 0
  | k + 1 => cntN m k + m / 2 ^ k % 2
theorem cntN_le (m : Nat) : ∀ k, cntN m k ≤ k
  | 0 => Nat.le_refl _
  | k + 1 => by
    have h := cntN_le m k
    have : m / 2 ^ k % 2 < 2 := Nat.mod_lt _ (by decide)
    unfold cntN
    omega
def roN (S : Nat → Nat) (T : t_T2) (i : Nat) : Nat → Nat
  | 0 => 0
  | k + 1 => roN S T i k + (if v_rests S T i k = true then 1 else 0)
def cauN (T : t_T2) (p : Nat) (v : Int32) : Nat → Nat → Int32
  | 0, _ => -5
  | d + 1, k => if tp T k = p then (if (nI (tg T k) >>> (v &&& 31)) &&& nI 1 = nI 1 then nI k else cauN T p v d (k + 1)) else cauN T p v d (k + 1)
theorem wfT.ga {S : Nat → Nat} (hW : wfS S) : wfT S (gA S) := wfT.got hW (nI 63)
theorem prT_lt (S : Nat → Nat) {T : t_T2} (hk : okT T) : prT S T < 2 ^ 36 := by
  unfold prT
  split
  · exact Nat.two_pow_pos _
  · exact Nat.lt_of_lt_of_le (prN_lt S T _ (Nat.le_refl _)) (Nat.pow_le_pow_right (by decide) (by have := hk.1; omega))
def sumN (S : Nat → Nat) (T : t_T2) (z : Nat) : Nat → Nat
  | 0 => 0
  | q + 1 => sumN S T z q + (if 2 ≤ z then cntN (tl T q) 64 else v_of S q z)
def lruN (S : Nat → Nat) : Nat → Nat
  | 0 => 0
  | q + 1 => lruN S q + (if v_ofRule S q 0 = 3 then 1 else 0)
