/-! solutions as they are asked for -/
set_option maxRecDepth 100000
theorem pow6 {d : Nat} (h : d ≤ 6) : 0 + 6 ^ d ≤ 46656 := by
  have : 6 ^ d ≤ 6 ^ 6 := Nat.pow_le_pow_right (by decide) h
  omega
theorem sol_n {S : Nat → Nat} (hW : wfB S) {m : Int32} {most : Nat} : (solY S m most).1 ≤ 46656 := Nat.le_trans (triF_n hW _ _ _ (Nat.le_refl _)) (pow6 hW.p)
abbrev EV : Int32 := nI 1073741823
def m_solutions (S : Nat → Nat) : Nat := (solY S EV 1000000).1
def m_best (S : Nat → Nat) (p : Int32) : Int32 := if v_isPack S p = true then (if (solY S EV 1).1 = 0 then (-3) else nI ((solY S EV 1).2.1 p.toNatClampNeg)) else (-1)
def m_without (S : Nat → Nat) (r : Int32) : Int32 := if v_isRule S r = true then nI (solY S (EV &&& unv (2 ^ r.toNatClampNeg)) 1000000).1 else (-1)
def m_possible (S : Nat → Nat) (p : Int32) : Int32 := if v_isPack S p = true then nI ((solY S EV 1000000).2.2 p.toNatClampNeg) else (-1)
def cosN (S : Nat → Nat) : Nat → Nat
  | 0 => 0
  | r + 1 => cosN S r ||| (if v_ofRule S r 0 = 3 then 0 else 2 ^ r)
def corN (S : Nat → Nat) : Nat → Nat → Int32 → Int32
  | 0, _, w => w
  | d + 1, r, w => corN S d (r + 1) (if (w >>> (nI r &&& 31)) &&& nI 1 = nI 1 then (if (solY S (w &&& unv (2 ^ r)) 1).1 = 0 then w &&& unv (2 ^ r) else w) else w)
theorem corN_s {S : Nat → Nat} {d r : Nat} {w : Int32} (h : 0 < d) : corN S d r w = corN S (d - 1) (r + 1) (if (w >>> (nI r &&& 31)) &&& nI 1 = nI 1 then (if (solY S (w &&& unv (2 ^ r)) 1).1 = 0 then w &&& unv (2 ^ r) else w) else w) := by
  obtain ⟨d, rfl⟩ : ∃ e, d = e + 1 := ⟨d - 1, by omega⟩
  rfl
def m_core (S : Nat → Nat) : Int32 := if (solY S EV 1).1 = 0 then corN S (S 1) 0 (nI (cosN S (S 1))) else (-3)
/-- told states -/
def tol (t : Nat) : Nat → Nat := fun q => t / 10 ^ q % 10
def gooN (S : Nat → Nat) (t : Nat) : Nat → Bool
  | 0 => true
  | p + 1 => if gooN S t p = true then (if v_isState S (nI p) (nI (tol t p)) = true then true else false) else false
def hiaN (S : Nat → Nat) (c : Nat → Nat) : Nat → Nat → Int32
  | 0, _ => if unr S c EV = (-1) then (-5) else nI 200 + unr S c EV
  | d + 1, a => if c (v_asm S a 0) = v_asm S a 1 then hiaN S c d (a + 1) else nI (100 + a)
theorem hiaN_s {S : Nat → Nat} {c : Nat → Nat} {d a : Nat} (h : 0 < d) : hiaN S c d a = if c (v_asm S a 0) = v_asm S a 1 then hiaN S c (d - 1) (a + 1) else nI (100 + a) := by
  obtain ⟨d, rfl⟩ : ∃ e, d = e + 1 := ⟨d - 1, by omega⟩
  rfl
def hirN (S : Nat → Nat) (c : Nat → Nat) : Nat → Nat → Int32
  | 0, _ => hiaN S c (S 2) 0
  | d + 1, r => if hld S r c = true then hirN S c d (r + 1) else nI r
theorem hirN_s {S : Nat → Nat} {c : Nat → Nat} {d r : Nat} (h : 0 < d) : hirN S c d r = if hld S r c = true then hirN S c (d - 1) (r + 1) else nI r := by
  obtain ⟨d, rfl⟩ : ∃ e, d = e + 1 := ⟨d - 1, by omega⟩
  rfl
def hinT (S : Nat → Nat) (t : Nat) : Int32 := if gooN S t (S 0) = true then (if t / 10 ^ S 0 = 0 then hirN S (tol t) (S 1) 0 else (-2)) else (-2)
def m_hinders (S : Nat → Nat) (told : Int32) : Int32 := if told < 0 then (-2) else hinT S told.toNatClampNeg
