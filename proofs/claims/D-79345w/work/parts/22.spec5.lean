/-! the reference's changes: an answer and the state behind it -/
set_option maxRecDepth 100000
theorem v_in_9 {u : Int32} (h : v_in u (nI 0) (nI 9) = true) : u.toNatClampNeg < 10 ∧ nI u.toNatClampNeg = u := v_in_up (n := 10) (by decide) (by rw [pk_sub (by decide)]; exact h)
def m_pack (z : t_Z) (S : Nat → Nat) : Int32 × t_Z := if S 0 = 6 then ((-4), z) else (nI (S 0), zput z S (up2 (packS S 7) 0 (S 0 + 1)))
def dupN (S : Nat → Nat) (p c : Nat) : Nat → Bool
  | 0 => false
  | v + 1 => dupN S p c v || decide (v_of S p (2 + v) = c)
theorem dupN_t {S : Nat → Nat} {p c v : Nat} : ∀ {n : Nat}, v < n → v_of S p (2 + v) = c → dupN S p c n = true
  | 0, h, _ => absurd h (Nat.not_lt_zero _)
  | n + 1, h, e => by
    unfold dupN
    rcases Nat.lt_or_ge v n with h1 | h1
    · rw [dupN_t h1 e]; rfl
    · rw [show n = v by omega]; simp [e]
def cod3 (a b c : Int32) : Nat := 100 * a.toNatClampNeg + 10 * b.toNatClampNeg + c.toNatClampNeg
def verS (S : Nat → Nat) (p c : Nat) : Nat → Nat := up2 (up2 S (((3 + (7 * p)) + 2) + v_of S p 0) c) ((3 + (7 * p)) + 0) (v_of S p 0 + 1)
def m_version (z : t_Z) (S : Nat → Nat) (p a b c : Int32) : Int32 × t_Z := if v_isPack S p = true then (if v_in a (nI 0) (nI 9) = true then (if v_in b (nI 0) (nI 9) = true then (if v_in c (nI 0) (nI 9) = true then
    (if dupN S p.toNatClampNeg (cod3 a b c) (v_of S p.toNatClampNeg 0) = true then ((-3), z) else (if v_of S p.toNatClampNeg 0 = 5 then ((-4), z) else (nI (v_of S p.toNatClampNeg 0), zput z S (verS S p.toNatClampNeg (cod3 a b c)))))
   else ((-2), z)) else ((-2), z)) else ((-2), z)) else ((-1), z)
def m_open (z : t_Z) (S : Nat → Nat) (p : Int32) (b : Bool) : Int32 × t_Z := if v_isPack S p = true then (nI (v_of S p.toNatClampNeg 1), zput z S (up2 S ((3 + (7 * p.toNatClampNeg)) + 1) (if b = true then 1 else 0))) else ((-1), z)
/-- an answer, and the numbers behind it -/
def wantsR (S : Nat → Nat) (p r : Int32) : Int32 × (Nat → Nat) := if v_isPack S p = true then (if v_isRange r = true then (if S 1 = 30 then ((-4), S) else (nI (S 1), addS S 0 p.toNatClampNeg 0 0 r.toNatClampNeg 0)) else ((-2), S)) else ((-1), S)
def holdsR (S : Nat → Nat) (k : Nat) (p v q r : Int32) : Int32 × (Nat → Nat) := if v_isVersion S p v = true then (if v_isPack S q = true then (if v_isRange r = true then (if p = q then ((-2), S) else (if S 1 = 30 then ((-4), S) else (nI (S 1), addS S k p.toNatClampNeg v.toNatClampNeg q.toNatClampNeg r.toNatClampNeg 0))) else ((-2), S)) else ((-1), S)) else ((-1), S)
def m_done (z : t_Z) (S : Nat → Nat) (x : Int32 × (Nat → Nat)) : Int32 × t_Z := if 0 ≤ x.1 then (x.1, zput z S x.2) else (x.1, z)
def m_drop (z : t_Z) (S : Nat → Nat) : Int32 × t_Z := if S 1 = 0 then ((-3), z) else (nI (S 1 - 1), zput z S (up2 S 1 (S 1 - 1)))
def m_retract (z : t_Z) (S : Nat → Nat) : Int32 × t_Z := if S 2 = 0 then ((-3), z) else (nI (S 2 - 1), zput z S (up2 S 2 (S 2 - 1)))
def m_undo (z : t_Z) : Int32 × t_Z := if zk z = 0 then ((-3), z) else (nI (zk z - 1), (zH z (zk z - 1), zb z, zV z, zk z - 1, z.2.2.2.2))
def m_save (z : t_Z) (S : Nat → Nat) : Int32 × t_Z := (nI (S 1), (S, true, S, z.2.2.2))
def m_restore (z : t_Z) : Int32 × t_Z := if zb z = true then (nI (zV z 1), (zV z, zb z, zV z, 0, z.2.2.2.2)) else ((-3), z)
theorem wantsR_neg {S : Nat → Nat} (hW : wfB S) {p r : Int32} (h : ¬ 0 ≤ (wantsR S p r).1) : (wantsR S p r).2 = S := by
  by_cases a : v_isPack S p = true
  · by_cases b : v_isRange r = true
    · by_cases c : S 1 = 30
      · rw [wantsR, if_pos a, if_pos b, if_pos c]
      · rw [wantsR, if_pos a, if_pos b, if_neg c] at h
        exact absurd (nI_pos' (by have := hW.r; omega)) h
    · rw [wantsR, if_pos a, if_neg b]
  · rw [wantsR, if_neg a]
theorem holdsR_neg {S : Nat → Nat} (hW : wfB S) {k : Nat} {p v q r : Int32} (h : ¬ 0 ≤ (holdsR S k p v q r).1) : (holdsR S k p v q r).2 = S := by
  by_cases a : v_isVersion S p v = true
  · by_cases b : v_isPack S q = true
    · by_cases c : v_isRange r = true
      · by_cases d : p = q
        · rw [holdsR, if_pos a, if_pos b, if_pos c, if_pos d]
        · by_cases e : S 1 = 30
          · rw [holdsR, if_pos a, if_pos b, if_pos c, if_neg d, if_pos e]
          · rw [holdsR, if_pos a, if_pos b, if_pos c, if_neg d, if_neg e] at h
            exact absurd (nI_pos' (by have := hW.r; omega)) h
      · rw [holdsR, if_pos a, if_pos b, if_neg c]
    · rw [holdsR, if_pos a, if_neg b]
  · rw [holdsR, if_neg a]
