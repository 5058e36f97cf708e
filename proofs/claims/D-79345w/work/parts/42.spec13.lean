/-! reports -/
set_option maxRecDepth 100000
def num (v : Nat) : List Nat := (if v < 10 then [] else [48 + v / 10]) ++ [48 + v % 10]
def wd (N : Nat) (g : Nat → Nat) : Nat → List Nat
  | 0 => []
  | j + 1 => wd N g j ++ [g j]
theorem wd_len {N : Nat} {g : Nat → Nat} : ∀ j, (wd N g j).length = j
  | 0 => rfl
  | j + 1 => by rw [wd, List.length_append, wd_len]; rfl
theorem num_len (v : Nat) : (num v).length ≤ 2 := by
  unfold num
  split <;> simp
def ver (c : Nat) : List Nat := (([32] ++ [48 + c / 100]) ++ [46]) ++ [48 + c / 10 % 10] ++ (if c % 10 = 0 then [] else [45] ++ [48 + c % 10])
theorem ver_len (c : Nat) : (ver c).length ≤ 6 := by
  unfold ver
  split <;> simp
/-- the characters that are written -/
def isW (F : Nat → Int32) (A : Nat → Nat → Int32) (L : List Nat) : Prop := F 11 = nI L.length ∧ ∀ j, j < L.length → A 10 j = nI (L.getD j 0)
def ktW (F : Nat → Int32) (A : Nat → Nat → Int32) (F' : Nat → Int32) (A' : Nat → Nat → Int32) : Prop := (∀ k, k ≠ 11 → F' k = F k) ∧ ∀ k, k ≠ 10 → A' k = A k
theorem ktW.tr {F A F1 A1 F2 A2} (h1 : ktW F A F1 A1) (h2 : ktW F1 A1 F2 A2) : ktW F A F2 A2 := ⟨fun k a => (h2.1 k a).trans (h1.1 k a), fun k a => (h2.2 k a).trans (h1.2 k a)⟩
theorem ktW.rf {F A} : ktW F A F A := ⟨fun _ _ => rfl, fun _ _ => rfl⟩
theorem isW.put {F A} {L : List Nat} (h : isW F A L) (c : Nat) : isW (upd F 11 (nI (L.length + 1))) (mdA A 10 L.length (nI c)) (L ++ [c]) := by
  refine ⟨by rw [List.length_append]; exact pk_us, fun j hj => ?_⟩
  rw [List.length_append] at hj
  have hj : j < L.length + 1 := hj
  by_cases e : j = L.length
  · rw [e, mdA_s]
    simp
  · rw [mdA_o e, h.2 j (by omega)]
    rw [List.getD_eq_getElem?_getD, List.getD_eq_getElem?_getD, List.getElem?_append_left (by omega)]
theorem isT.w {S F A F' A'} {T : t_T2} (h : isT S F A T) (k : ktW F A F' A') : isT S F' A' T := by
  obtain ⟨h0, h1, h2, h3, h4, h5⟩ := h
  refine ⟨by rw [k.1 16 (by decide)]; exact h0, by rw [k.1 17 (by decide)]; exact h1, ?_, ?_, ?_, ?_⟩
  · rw [k.2 12 (by decide)]; exact h2
  · rw [k.2 13 (by decide)]; exact h3
  · rw [k.2 14 (by decide)]; exact h4
  · rw [k.2 15 (by decide)]; exact h5
def repV (S : Nat → Nat) (p o : Nat) : Nat → List Nat
  | 0 => []
  | v + 1 => repV S p o v ++ (if o / 2 ^ v &&& 1 = 1 then ver (v_of S p (2 + v)) else [])
theorem repV_len (S : Nat → Nat) (p o : Nat) : ∀ v, (repV S p o v).length ≤ 6 * v
  | 0 => Nat.le_refl _
  | v + 1 => by
    have h := repV_len S p o v
    have h2 := ver_len (v_of S p (2 + v))
    rw [repV, List.length_append]
    split
    · omega
    · simp; omega
/-- a step's report, up to the versions -/
def repA (T : t_T2) (i : Nat) : List Nat := (((((((([] ++ num i) ++ wd 4 (jk_t 1) 4) ++ (if tb T i < 100 then [] else [61])) ++ num (tb T i % 100)) ++ wd 2 (jk_t 2) 2) ++ [97 + tp T i]) ++ wd 6 (jk_t 3) 6))
def rep (S : Nat → Nat) (T : t_T2) (i : Nat) : List Nat := (repA T i ++ repV S (tp T i) (tg T i) 5) ++ (if tg T i / 2 ^ 5 &&& 1 = 1 then wd 5 (jk_t 5) 5 else [])
def zrep (z : t_Z) (L : List Nat) : t_Z := (zS z, zb z, zV z, zk z, zH z, zl z, zx z, ze z, zi z, L.length, fun j => L.getD j 0)
theorem isZ.rep {F A F' A'} {z : t_Z} {L : List Nat} (h : isZ F A z) (hF : ∀ k, k = 4 ∨ k = 5 ∨ k = 7 ∨ k = 8 ∨ k = 9 → F' k = F k) (hA : ∀ k, k = 0 ∨ k = 1 ∨ k = 3 ∨ k = 6 → A' k = A k) (hW : isW F' A' L) : isZ F' A' (zrep z L) := by
  obtain ⟨h0, h1, h2, h3, h4, h5, h6, h7, h8, h9, h10⟩ := h
  refine ⟨?_, ?_, ?_, ?_, ?_, ?_, ?_, ?_, ?_, hW.1, hW.2⟩
  · rw [hA 0 (by decide)]; exact h0
  · rw [hF 5 (by decide)]; exact h1
  · rw [hA 1 (by decide)]; exact h2
  · rw [hF 4 (by decide)]; exact h3
  · rw [hA 3 (by decide)]; exact h4
  · rw [hF 7 (by decide)]; exact h5
  · rw [hA 6 (by decide)]; exact h6
  · rw [hF 8 (by decide)]; exact h7
  · rw [hF 9 (by decide)]; exact h8
def m_report (z : t_Z) (S : Nat → Nat) (i : Int32) : Int32 × t_Z := if v_in i (nI 0) (nI (tn (gA S)) - nI 1) = true then (nI (rep S (gA S) i.toNatClampNeg).length, zrep z (rep S (gA S) i.toNatClampNeg)) else ((-1), z)
def m_character (z : t_Z) (i : Int32) : Int32 := if v_in i (nI 0) (nI (zw z) - nI 1) = true then nI (zr z i.toNatClampNeg) else (-1)
theorem repA_len (T : t_T2) (i : Nat) : (repA T i).length ≤ 18 := by
  have h1 := num_len i
  have h2 := num_len (tb T i % 100)
  unfold repA
  simp only [List.length_append, wd_len, List.length_nil, List.length_cons]
  split <;> simp only [List.length_nil, List.length_cons] <;> omega
