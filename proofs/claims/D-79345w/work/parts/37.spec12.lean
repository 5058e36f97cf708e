/-! what is read is done -/
set_option maxRecDepth 100000
def doR (T : Nat → Nat) (e : Nat) (S : Nat → Nat) (i : Nat) : Int32 × (Nat → Nat) := if itK T e (true, itS T e i) = 0 then wantsR S (tgt T e (it3 T e (true, itS T e i))).2.1 (tgt T e (it3 T e (true, itS T e i))).2.2
  else holdsR S (itK T e (true, itS T e i)) (mvl T e 97 (true, itS T e i)) (mvl T e 48 (mstR T e 97 102 (true, itS T e i))) (tgt T e (it3 T e (true, itS T e i))).2.1 (tgt T e (it3 T e (true, itS T e i))).2.2
def doN (T : Nat → Nat) (e : Nat) : Nat → Nat → (Nat → Nat) → Nat × (Nat → Nat)
  | 0, i, S => (i, S)
  | d + 1, i, S => if 0 ≤ (doR T e S i).1 then doN T e d (i + 1) (doR T e S i).2 else (i, S)
theorem doN_s {T : Nat → Nat} {e d i : Nat} {S : Nat → Nat} (h : 0 < d) (c : 0 ≤ (doR T e S i).1) : doN T e d i S = doN T e (d - 1) (i + 1) (doR T e S i).2 := by
  obtain ⟨d, rfl⟩ : ∃ g, d = g + 1 := ⟨d - 1, by omega⟩
  rw [doN, if_pos c]; rfl
theorem doN_x {T : Nat → Nat} {e d i : Nat} {S : Nat → Nat} (h : 0 < d) (c : ¬ 0 ≤ (doR T e S i).1) : doN T e d i S = (i, S) := by
  obtain ⟨d, rfl⟩ : ∃ g, d = g + 1 := ⟨d - 1, by omega⟩
  rw [doN, if_neg c]
theorem itK_lt {T : Nat → Nat} {e : Nat} {R : t_R} : itK T e R < 3 := by
  unfold itK
  (repeat' split) <;> omega
theorem wfA.do1 {S : Nat → Nat} (hA : wfA S) (T : Nat → Nat) (e i : Nat) : wfA (doR T e S i).2 := by
  unfold doR
  split
  · exact hA.wants _ _
  · exact hA.holds itK_lt _ _ _ _
/-- the text is gone -/
def zrd (z : t_Z) : t_Z := (zS z, zb z, zV z, zk z, zH z, 0, z.2.2.2.2.2.2)
theorem isZ.rd0 {F A F' A'} {z : t_Z} (h : isZ F A z) (h7 : F' 7 = nI 0) (hF : ∀ k, k = 4 ∨ k = 5 ∨ k = 8 ∨ k = 9 ∨ k = 11 → F' k = F k) (hA : ∀ k, k = 0 ∨ k = 1 ∨ k = 3 ∨ k = 6 ∨ k = 10 → A' k = A k) : isZ F' A' (zrd z) := by
  obtain ⟨h0, h1, h2, h3, h4, h5, h6, h7', h8, h9, h10⟩ := h
  refine ⟨?_, ?_, ?_, ?_, ?_, h7, fun j hj => absurd hj (Nat.not_lt_zero _), ?_, ?_, ?_, ?_⟩
  · rw [hA 0 (by decide)]; exact h0
  · rw [hF 5 (by decide)]; exact h1
  · rw [hA 1 (by decide)]; exact h2
  · rw [hF 4 (by decide)]; exact h3
  · rw [hA 3 (by decide)]; exact h4
  · rw [hF 8 (by decide)]; exact h7'
  · rw [hF 9 (by decide)]; exact h8
  · rw [hF 11 (by decide)]; exact h9
  · rw [hA 10 (by decide)]; exact h10
def zer (z : t_Z) (v : Int32) : t_Z := (zS z, zb z, zV z, zk z, zH z, zl z, zx z, v, z.2.2.2.2.2.2.2.2)
def zit (z : t_Z) (v : Int32) : t_Z := (zS z, zb z, zV z, zk z, zH z, zl z, zx z, ze z, v, z.2.2.2.2.2.2.2.2.2)
theorem isZ.er {F A} {z : t_Z} (h : isZ F A z) (v : Int32) : isZ (upd F 8 v) A (zer z v) := by
  obtain ⟨h0, h1, h2, h3, h4, h5, h6, h7, h8, h9, h10⟩ := h
  exact ⟨h0, (pk_un (by decide)).trans h1, h2, (pk_un (by decide)).trans h3, h4, (pk_un (by decide)).trans h5, h6, pk_us, (pk_un (by decide)).trans h8, (pk_un (by decide)).trans h9, h10⟩
theorem isZ.it {F A A'} {z : t_Z} (h : isZ F A z) (v : Int32) (hA : ∀ k, k = 1 ∨ k = 3 ∨ k = 6 ∨ k = 10 → A' k = A k) (h0' : ∀ j, j < 237 → A' 0 j = nI (zS z j)) : isZ (upd F 9 v) A' (zit z v) := by
  obtain ⟨h0, h1, h2, h3, h4, h5, h6, h7, h8, h9, h10⟩ := h
  refine ⟨h0', (pk_un (by decide)).trans h1, ?_, (pk_un (by decide)).trans h3, ?_, (pk_un (by decide)).trans h5, ?_, (pk_un (by decide)).trans h7, pk_us, (pk_un (by decide)).trans h9, ?_⟩
  · rw [hA 1 (by decide)]; exact h2
  · rw [hA 3 (by decide)]; exact h4
  · rw [hA 6 (by decide)]; exact h6
  · rw [hA 10 (by decide)]; exact h10
def m_read (z : t_Z) (S : Nat → Nat) : Int32 × t_Z := if rdO (zx z) (zl z) = true then
    (if (doN (zx z) (zl z) (rd (zx z) (zl z)).2 0 S).1 = (rd (zx z) (zl z)).2 then (nI (rd (zx z) (zl z)).2, zput (zrd z) S (doN (zx z) (zl z) (rd (zx z) (zl z)).2 0 S).2)
     else ((-3), zit (zrd z) (nI (doN (zx z) (zl z) (rd (zx z) (zl z)).2 0 S).1)))
  else ((-2), zer (zrd z) (nI (rd (zx z) (zl z)).1.2))
def m_fault (z : t_Z) (b : Bool) : Int32 := if (if b = true then zi z else ze z) = (-1) then (-3) else (if b = true then zi z else ze z)
