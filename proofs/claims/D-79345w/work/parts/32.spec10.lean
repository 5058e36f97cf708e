/-! rules that come keep the bounds; the text that is read -/
set_option maxRecDepth 100000
theorem addS_o {S : Nat → Nat} {a b c d e f j : Nat} (h1 : j ≠ 1) (h : j < 45 + 6 * S 1 ∨ 45 + 6 * S 1 + 5 < j) : addS S a b c d e f j = S j := by
  unfold addS
  rw [up2_o h1, up2_o (by omega), up2_o (by omega), up2_o (by omega), up2_o (by omega), up2_o (by omega), up2_o (by omega)]
theorem addS_r {S : Nat → Nat} {a b c d e f : Nat} : v_ofRule (addS S a b c d e f) (S 1) 0 = a ∧ v_ofRule (addS S a b c d e f) (S 1) 1 = b ∧ v_ofRule (addS S a b c d e f) (S 1) 2 = c ∧ v_ofRule (addS S a b c d e f) (S 1) 3 = d ∧ v_ofRule (addS S a b c d e f) (S 1) 4 = e ∧ v_ofRule (addS S a b c d e f) (S 1) 5 = f := by
  unfold v_ofRule addS
  refine ⟨?_, ?_, ?_, ?_, ?_, ?_⟩
  · rw [up2_o (by omega), up2_o (by omega), up2_o (by omega), up2_o (by omega), up2_o (by omega), up2_o (by omega)]; exact up2_s
  · rw [up2_o (by omega), up2_o (by omega), up2_o (by omega), up2_o (by omega), up2_o (by omega)]; exact up2_s
  · rw [up2_o (by omega), up2_o (by omega), up2_o (by omega), up2_o (by omega)]; exact up2_s
  · rw [up2_o (by omega), up2_o (by omega), up2_o (by omega)]; exact up2_s
  · rw [up2_o (by omega), up2_o (by omega)]; exact up2_s
  · rw [up2_o (by omega)]; exact up2_s
theorem wfS.add {S : Nat → Nat} (hW : wfS S) (h30 : S 1 < 30) {a b c d e f : Nat} (ha : a ≤ 3) (hb : b < S 0) (hc : c < 5) (hd : d < S 0) (he : e < 6000) (hf : f < 117649) : wfS (addS S a b c d e f) := by
  obtain ⟨⟨b0, b1, b2, b3, b4, b5⟩, w1, w2, w3⟩ := hW
  have e0 : addS S a b c d e f 0 = S 0 := addS_o (by decide) (by omega)
  have e1 : addS S a b c d e f 1 = S 1 + 1 := up2_s
  have e2 : addS S a b c d e f 2 = S 2 := addS_o (by decide) (by omega)
  have ev : ∀ q w, q < 6 → w < 7 → v_of (addS S a b c d e f) q w = v_of S q w := fun q w hq hw => addS_o (by omega) (by omega)
  have er : ∀ q w, q ≠ S 1 → w < 6 → v_ofRule (addS S a b c d e f) q w = v_ofRule S q w := fun q w hq hw => addS_o (by omega) (by omega)
  have ea : ∀ q w, w < 2 → v_asm (addS S a b c d e f) q w = v_asm S q w := fun q w hw => addS_o (by omega) (by omega)
  obtain ⟨n0, n1, n2, n3, n4, n5⟩ := addS_r (S := S) (a := a) (b := b) (c := c) (d := d) (e := e) (f := f)
  refine ⟨⟨by rw [e0]; exact b0, by rw [e1]; omega, by rw [e2]; exact b2, fun q hq => ?_, fun q hq => ?_, fun x hx => ?_⟩, fun r hr => ?_, fun x hx => ?_, fun x y hxy hy => ?_⟩
  · rw [ev q 0 hq (by decide), ev q 1 hq (by decide)]
    exact ⟨(b3 q hq).1, (b3 q hq).2.1, fun w hw => by rw [ev q _ hq (by omega)]; exact (b3 q hq).2.2 w hw⟩
  · by_cases z : q = S 1
    · rw [z, n0, n1, n2, n3, n4, n5]; omega
    · rw [er q 0 z (by decide), er q 1 z (by decide), er q 2 z (by decide), er q 3 z (by decide), er q 4 z (by decide), er q 5 z (by decide)]
      exact b4 q hq
  · rw [ea x 0 (by decide), ea x 1 (by decide)]; exact b5 x hx
  · rw [e1] at hr
    rw [e0]
    by_cases z : r = S 1
    · rw [z, n1, n3]; exact ⟨hb, hd⟩
    · rw [er r 1 z (by decide), er r 3 z (by decide)]
      exact w1 r (by omega)
  · rw [e2] at hx
    rw [e0, ea x 0 (by decide)]; exact w2 x hx
  · rw [e2] at hy
    rw [ea x 0 (by decide), ea y 0 (by decide)]; exact w3 x y hxy hy
theorem wfL.add {S : Nat → Nat} (hL : wfL S) {a b c d e f : Nat} (h : a = 3 → (∃ q, q < S 0 ∧ ¬ f / 7 ^ q % 7 = 0) ∧ ∀ q, S 0 ≤ q → f / 7 ^ q % 7 = 0) : wfL (addS S a b c d e f) := by
  have e0 : addS S a b c d e f 0 = S 0 := addS_o (by decide) (by omega)
  have e1 : addS S a b c d e f 1 = S 1 + 1 := up2_s
  obtain ⟨n0, n1, n2, n3, n4, n5⟩ := addS_r (S := S) (a := a) (b := b) (c := c) (d := d) (e := e) (f := f)
  have er : ∀ q w, q ≠ S 1 → w < 6 → v_ofRule (addS S a b c d e f) q w = v_ofRule S q w := fun q w hq hw => addS_o (by omega) (by omega)
  intro r hr hk
  rw [e1] at hr
  rw [e0]
  by_cases z : r = S 1
  · have el : ∀ q, lsd (addS S a b c d e f) r q = f / 7 ^ q % 7 := fun q => by unfold lsd; rw [z, n5]
    rw [z, n0] at hk
    simp only [el]
    exact h hk
  · rw [er r 0 z (by decide)] at hk
    have el : ∀ q, lsd (addS S a b c d e f) r q = lsd S r q := fun q => by unfold lsd; rw [er r 5 z (by decide)]
    simp only [el]
    exact hL r (by omega) hk
abbrev wfA (S : Nat → Nat) : Prop := wfS S ∧ wfL S
theorem wfA.wants {S : Nat → Nat} (hW : wfA S) (p r : Int32) : wfA (wantsR S p r).2 := by
  have h1 := hW.1.1.r
  unfold wantsR
  split
  · rename_i a
    split
    · rename_i b
      split
      · exact hW
      · have h2 := (v_isPack_n hW.1.1 a).1
        have h3 := (v_isRange_n b).1
        exact ⟨hW.1.add (by omega) (by decide) h2 (by decide) (by omega) h3 (by decide), hW.2.add (fun h => absurd h (by decide))⟩
    · exact hW
  · exact hW
theorem wfA.holds {S : Nat → Nat} (hW : wfA S) {k : Nat} (hk : k < 3) (p v q r : Int32) : wfA (holdsR S k p v q r).2 := by
  have h1 := hW.1.1.r
  have h0 := hW.1.1.p
  unfold holdsR
  split
  · rename_i a
    split
    · rename_i a2
      split
      · rename_i b
        split
        · exact hW
        · split
          · exact hW
          · have h2 := (v_isPack_n hW.1.1 (v_isVersion_p a)).1
            have h4 := (v_isPack_n hW.1.1 a2).1
            have h5 := (v_isVersion_v hW.1.1 a).1
            have h6 := hW.1.1.nv (p := p.toNatClampNeg) (by omega)
            have h3 := (v_isRange_n b).1
            exact ⟨hW.1.add (by omega) (by omega) h2 (by omega) h4 h3 (by decide), hW.2.add (fun h => absurd h (by omega))⟩
      · exact hW
    · exact hW
  · exact hW
/-- append -/
def zapp (z : t_Z) (c : Nat) : t_Z := (zS z, zb z, zV z, zk z, zH z, zl z + 1, up2 (zx z) (zl z) c, z.2.2.2.2.2.2.2)
def m_append (z : t_Z) (c : Int32) : Int32 × t_Z := if v_in c (nI 33) (nI 126) = true then (if zl z = 60 then ((-4), z) else (nI (zl z + 1), zapp z c.toNatClampNeg)) else ((-2), z)
theorem isZ.app {F A} {z : t_Z} {c : Nat} (h : isZ F A z) (h6 : zl z < 60) : isZ (upd F 7 (nI (zl z + 1))) (mdA A 6 (zl z) (nI c)) (zapp z c) := by
  obtain ⟨h0, h1, h2, h3, h4, h5, h6, h7, h8, h9, h10⟩ := h
  refine ⟨?_, (pk_un (by decide)).trans h1, ?_, (pk_un (by decide)).trans h3, ?_, pk_us, ?_, (pk_un (by decide)).trans h7, (pk_un (by decide)).trans h8, (pk_un (by decide)).trans h9, ?_⟩
  · rw [mdA_i (by decide)]; exact h0
  · rw [mdA_i (by decide)]; exact h2
  · rw [mdA_i (by decide)]; exact h4
  · intro j hj
    show _ = nI (up2 (zx z) (zl z) c j)
    have hj : j < zl z + 1 := hj
    by_cases e : j = zl z
    · rw [e, mdA_s, up2_s]
    · rw [mdA_o e, up2_o e]; exact h6 j (by omega)
  · rw [mdA_i (by decide)]; exact h10
/-- reading: whether all is right, and the spot -/
abbrev t_R : Type := Bool × Nat
def herP (T : Nat → Nat) (e s : Nat) : Int32 := if s < e then nI (T s) else (-1)
theorem herP_lt {T : Nat → Nat} {e s n : Nat} (hn : n < 2 ^ 31) (h : herP T e s = nI n) : s < e := by
  unfold herP at h
  split at h
  · assumption
  · exfalso
    have h3 := congrArg Int32.toInt h
    rw [nI_toInt hn] at h3
    have : ((-1 : Int32)).toInt = -1 := rfl
    omega
def mstR (T : Nat → Nat) (e lo hi : Nat) (R : t_R) : t_R := ((if R.1 = true then (if v_in (herP T e R.2) (nI lo) (nI hi) = true then true else false) else false), R.2 + (if (if R.1 = true then (if v_in (herP T e R.2) (nI lo) (nI hi) = true then true else false) else false) = true then 1 else 0))
def mvl (T : Nat → Nat) (e lo : Nat) (R : t_R) : Int32 := herP T e R.2 - nI lo
theorem v_in_her {T : Nat → Nat} {e s lo hi : Nat} (hlo : lo < 2 ^ 31) (h : v_in (herP T e s) (nI lo) (nI hi) = true) : s < e := by
  obtain ⟨h1, _⟩ := v_in_iff.mp h
  unfold herP at h1
  split at h1
  · assumption
  · exfalso
    have h3 := Int32.le_iff_toInt_le.mp h1
    rw [nI_toInt hlo] at h3
    have : ((-1 : Int32)).toInt = -1 := rfl
    omega
theorem mstR_t {T : Nat → Nat} {e lo hi : Nat} {R : t_R} (hlo : lo < 2 ^ 31) (h : (mstR T e lo hi R).1 = true) : R.1 = true ∧ R.2 < e ∧ (mstR T e lo hi R).2 = R.2 + 1 := by
  unfold mstR at h ⊢
  by_cases a : R.1 = true
  · by_cases b : v_in (herP T e R.2) (nI lo) (nI hi) = true
    · exact ⟨a, v_in_her hlo b, by simp [a, b]⟩
    · simp [a, b] at h
  · simp [a] at h
theorem mstR_f {T : Nat → Nat} {e lo hi : Nat} {R : t_R} (h : ¬ (mstR T e lo hi R).1 = true) : (mstR T e lo hi R).2 = R.2 := by
  unfold mstR at h ⊢
  by_cases a : (if R.1 = true then (if v_in (herP T e R.2) (nI lo) (nI hi) = true then true else false) else false) = true
  · exact absurd a h
  · simp only [if_neg a]; rfl
theorem mstR_le {T : Nat → Nat} {e lo hi : Nat} {R : t_R} (hlo : lo < 2 ^ 31) (h : R.2 ≤ e) : (mstR T e lo hi R).2 ≤ e := by
  by_cases a : (mstR T e lo hi R).1 = true
  · have := mstR_t hlo a; omega
  · rw [mstR_f a]; exact h
theorem mstR_ge {T : Nat → Nat} {e lo hi : Nat} {R : t_R} (hlo : lo < 2 ^ 31) : R.2 ≤ (mstR T e lo hi R).2 := by
  by_cases a : (mstR T e lo hi R).1 = true
  · have := mstR_t hlo a; omega
  · rw [mstR_f a]; exact Nat.le_refl _
def amo (c : Int32) : Nat := if c = nI 61 then 1 else (if c = nI 60 then 2 else (if c = nI 43 then 3 else (if c = nI 94 then 4 else (if c = nI 126 then 5 else 0))))
theorem amo_le (c : Int32) : amo c ≤ 5 := by unfold amo; (repeat' split) <;> omega
theorem amo_her {T : Nat → Nat} {e s : Nat} (h : ¬ amo (herP T e s) = 0) : s < e := by
  unfold herP at h
  split at h
  · assumption
  · exact absurd (by decide) h
/-- behind a range's sign -/
def tgK (T : Nat → Nat) (e : Nat) (R : t_R) : t_R := ((if amo (herP T e R.2) = 0 then false else true), R.2 + (if (if amo (herP T e R.2) = 0 then false else true) = true then 1 else 0))
def tgN (T : Nat → Nat) (e : Nat) (R : t_R) : Int32 := nI (1000 * amo (herP T e R.2)) + nI 100 * mvl T e 48 (tgK T e R)
def tg5 (T : Nat → Nat) (e : Nat) (R : t_R) : t_R := mstR T e 48 57 (mstR T e 46 46 (mstR T e 48 57 (tgK T e R)))
def tgM (T : Nat → Nat) (e : Nat) (R : t_R) : Int32 := tgN T e R + nI 10 * mvl T e 48 (mstR T e 46 46 (mstR T e 48 57 (tgK T e R)))
/-- a target: what is behind it, the package, the range -/
def tgt (T : Nat → Nat) (e : Nat) (R : t_R) : t_R × Int32 × Int32 := if (mstR T e 97 102 R).1 = true then
    (if herP T e (mstR T e 97 102 R).2 = nI 42 then (((mstR T e 97 102 R).1, (mstR T e 97 102 R).2 + 1), mvl T e 97 R, nI 0)
     else (if (tg5 T e (mstR T e 97 102 R)).1 = true then (if herP T e (tg5 T e (mstR T e 97 102 R)).2 = nI 45 then (mstR T e 48 57 ((tg5 T e (mstR T e 97 102 R)).1, (tg5 T e (mstR T e 97 102 R)).2 + 1), mvl T e 97 R, tgM T e (mstR T e 97 102 R) + mvl T e 48 ((tg5 T e (mstR T e 97 102 R)).1, (tg5 T e (mstR T e 97 102 R)).2 + 1))
        else (tg5 T e (mstR T e 97 102 R), mvl T e 97 R, tgM T e (mstR T e 97 102 R)))
      else (tg5 T e (mstR T e 97 102 R), mvl T e 97 R, tgM T e (mstR T e 97 102 R))))
  else (mstR T e 97 102 R, mvl T e 97 R, nI 0)
def itA (T : Nat → Nat) (e : Nat) (R : t_R) : t_R := mstR T e 48 52 (mstR T e 97 102 R)
def itB (T : Nat → Nat) (e : Nat) (R : t_R) : Bool := if (itA T e R).1 = true then (if herP T e (itA T e R).2 = nI 33 then true else (if herP T e (itA T e R).2 = nI 62 then true else false)) else false
def it3 (T : Nat → Nat) (e : Nat) (R : t_R) : t_R := if herP T e R.2 = nI 62 then (R.1, R.2 + (if R.1 = true then 1 else 0)) else (itB T e R, (itA T e R).2 + (if itB T e R = true then 1 else 0))
def itE (T : Nat → Nat) (e : Nat) (R : t_R) : t_R := if (it3 T e R).1 = true then (tgt T e (it3 T e R)).1 else it3 T e R
def itK (T : Nat → Nat) (e : Nat) (R : t_R) : Nat := if herP T e R.2 = nI 62 then 0 else (if herP T e (itA T e R).2 = nI 33 then 2 else 1)
/-- where what is read is -/
def isR (F : Nat → Int32) (e m : Nat) (R : t_R) : Prop := F 22 = nI R.2 ∧ F 23 = nI e ∧ F 24 = bI R.1 ∧ F 26 = nI m
def ktR (F F' : Nat → Int32) : Prop := ∀ i, i ≠ 22 → i ≠ 24 → i ≠ 26 → F' i = F i
theorem ktR.tr {F F1 F2 : Nat → Int32} (h : ktR F F1) (h2 : ktR F1 F2) : ktR F F2 := fun i a b c => (h2 i a b c).trans (h i a b c)
theorem ktR.rf {F : Nat → Int32} : ktR F F := fun _ _ _ _ => rfl
theorem tgK_le {T : Nat → Nat} {e : Nat} {R : t_R} (h : R.2 ≤ e) : (tgK T e R).2 ≤ e := by
  unfold tgK
  by_cases a : amo (herP T e R.2) = 0
  · simp only [if_pos a]; exact h
  · simp only [if_neg a, if_true]
    exact amo_her a
theorem tg5_le {T : Nat → Nat} {e : Nat} {R : t_R} (h : R.2 ≤ e) : (tg5 T e R).2 ≤ e := mstR_le (by decide) (mstR_le (by decide) (mstR_le (by decide) (tgK_le h)))
theorem tgt_le {T : Nat → Nat} {e : Nat} {R : t_R} (h : R.2 ≤ e) : (tgt T e R).1.2 ≤ e := by
  have h1 : (mstR T e 97 102 R).2 ≤ e := mstR_le (by decide) h
  have h5 := tg5_le (T := T) h1
  unfold tgt
  split
  · split
    · rename_i a; exact herP_lt (by decide) a
    · split
      · split
        · rename_i a; exact mstR_le (by decide) (herP_lt (by decide) a)
        · exact h5
      · exact h5
  · exact h1
theorem it3_le {T : Nat → Nat} {e : Nat} {R : t_R} (h : R.2 ≤ e) : (it3 T e R).2 ≤ e := by
  have h1 : (itA T e R).2 ≤ e := mstR_le (by decide) (mstR_le (by decide) h)
  unfold it3
  split
  · rename_i a
    show R.2 + _ ≤ e
    have := herP_lt (by decide) a
    split <;> omega
  · show (itA T e R).2 + _ ≤ e
    by_cases b : itB T e R = true
    · rw [if_pos b]
      unfold itB at b
      split at b
      · split at b
        · rename_i a; exact herP_lt (by decide) a
        · split at b
          · rename_i a; exact herP_lt (by decide) a
          · cases b
      · cases b
    · rw [if_neg b]; exact h1
theorem itE_le {T : Nat → Nat} {e : Nat} {R : t_R} (h : R.2 ≤ e) : (itE T e R).2 ≤ e := by
  unfold itE
  split
  · exact tgt_le (it3_le h)
  · exact it3_le h
