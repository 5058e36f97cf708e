/-! strings and byte arrays, constant or made -/
set_option maxRecDepth 100000
theorem jk_F.cs {B : Nat} {σ : jk_A} {U : State} (h : jk_F B σ U) : va_Z "java/lang/String" "COMPACT_STRINGS" "Z" (.int (nI 1)) (fun q => B ≤ q) U U.heap := h.2.2.1.2.2.2.2.2.2.1
theorem jk_F.sio {B : Nat} {σ : jk_A} {U : State} (h : jk_F B σ U) : va_Zq "jdk/internal/util/Preconditions" "SIOOBE_FORMATTER" "Ljava/util/function/BiFunction;" (fun q => B ≤ q) U U.heap := h.2.2.1.2.2.2.2.2.2.2.2.2
def jbar (G : jv_G) (σ : jk_A) (M : jv_M) (b N : Nat) (f : Nat → Int32) : Prop := (∃ i, i < 7 ∧ b = σ.2.1 i ∧ N = jk_n i ∧ ∀ j, j < N → f j = jk_b i j) ∨ M b = some (.inl (G.2.2.1 2, N, .inl f))
def jstr (G : jv_G) (σ : jk_A) (M : jv_M) (s b N : Nat) (g : Nat → Nat) : Prop := ((∃ i, i < 7 ∧ s = σ.1 i ∧ b = σ.2.1 i ∧ N = jk_n i ∧ ∀ j, j < N → nI (g j) = jk_b i j) ∨
  ∃ h0 z0 : Int32, M s = some (.inr (22, [.ref b, .int (nI 0), .int h0, .int z0])) ∧ M b = some (.inl (G.2.2.1 2, N, .inl (fun j => nI (g j))))) ∧ (∀ j, j < N → g j < 128) ∧ N < 2 ^ 20
theorem jstr.bar {G : jv_G} {σ : jk_A} {M : jv_M} {s b N : Nat} {g : Nat → Nat} (h : jstr G σ M s b N g) : jbar G σ M b N (fun j => nI (g j)) := by
  rcases h.1 with ⟨i, hi, -, h2, h3, h4⟩ | ⟨h0, z0, -, h2⟩
  · exact Or.inl ⟨i, hi, h2, h3, h4⟩
  · exact Or.inr h2
theorem jstr.lt {G : jv_G} {σ : jk_A} {M : jv_M} {s b N : Nat} {g : Nat → Nat} (h : jstr G σ M s b N g) {j : Nat} (hj : j < N) : g j < 128 := h.2.1 j hj
theorem jstr.nl {G : jv_G} {σ : jk_A} {M : jv_M} {s b N : Nat} {g : Nat → Nat} (h : jstr G σ M s b N g) : N < 2 ^ 20 := h.2.2
theorem jbar.sub {G : jv_G} {σ : jk_A} {M M' : jv_M} {b N : Nat} {f : Nat → Int32} (h : jbar G σ M b N f) (hM : ∀ a, M a ≠ none → M' a = M a) : jbar G σ M' b N f := by
  rcases h with h | h
  · exact Or.inl h
  · exact Or.inr (by rw [hM b (by rw [h]; exact nofun), h])
theorem jstr.sub {G : jv_G} {σ : jk_A} {M M' : jv_M} {s b N : Nat} {g : Nat → Nat} (h : jstr G σ M s b N g) (hM : ∀ a, M a ≠ none → M' a = M a) : jstr G σ M' s b N g := by
  refine ⟨?_, h.2⟩
  rcases h.1 with h | ⟨h0, z0, h1, h2⟩
  · exact Or.inl h
  · exact Or.inr ⟨h0, z0, by rw [hM s (by rw [h1]; exact nofun), h1], by rw [hM b (by rw [h2]; exact nofun), h2]⟩
/-- a constant as a string -/
def jk_t (i j : Nat) : Nat := ((([[], [32, 98, 121, 32], [58, 32], [32, 108, 111, 115, 101, 115], [110, 111, 110, 101], [32, 110, 111, 110, 101], [42, 61, 60, 43, 94, 126]] : List (List Nat)).getD i []).getD j 0)
theorem jk_t_b : ∀ i, i < 7 → ∀ j, j < jk_n i → nI (jk_t i j) = jk_b i j := by decide +kernel
theorem jk_t_lt : ∀ i, i < 7 → ∀ j, j < jk_n i → jk_t i j < 128 := by decide +kernel
theorem jk_n_lt : ∀ i, i < 7 → jk_n i < 2 ^ 20 := by decide +kernel
theorem jstr.K {G : jv_G} {σ : jk_A} {M : jv_M} {i : Nat} (hi : i < 7) : jstr G σ M (σ.1 i) (σ.2.1 i) (jk_n i) (jk_t i) := ⟨Or.inl ⟨i, hi, rfl, rfl, rfl, jk_t_b i hi⟩, jk_t_lt i hi, jk_n_lt i hi⟩
section JS
variable {x : jv_X} {G : jv_G} {y : MethodName} {cc : ByteArray} {nL fr mc ms lo : Nat} {ret : Option FieldType} {Q : State → Prop} {M : jv_M} {k n pc : Nat} {lv : List (Nat × Value)} {st : List Value} {σ : jk_A} {s b N : Nat} {g : Nat → Nat} {f : Nat → Int32}
theorem jv_strV {index : Nat} (X : jv_C x G y cc nL ret fr mc ms lo) (d : decode cc pc = .ok (.getfield index, 3)) (hG : jk_G G σ) (h : jstr G σ M s b N g) (hlink : Cond.fieldLink y.cls index "java/lang/String" "value" "[B" ∈ lw_all)
    (kk : jv_J x G nL Q M k n (pc + 3) lv (.ref b :: st)) : jv_J x G nL Q M k n pc lv (.ref s :: st) := by
  rcases h.1 with ⟨i, hi, rfl, rfl, -, -⟩ | ⟨h0, z0, h1, h2⟩
  · exact jv_getK X d ((hG.f X).1.1 i hi).2.2.1 hlink kk
  · exact jv_get X d h1 (T := TJ5) (N := 4) (C := RJ5) rfl in_J5 0 (by decide) hlink rfl rfl kk
theorem jv_strC {index : Nat} (X : jv_C x G y cc nL ret fr mc ms lo) (d : decode cc pc = .ok (.getfield index, 3)) (hG : jk_G G σ) (h : jstr G σ M s b N g) (hlink : Cond.fieldLink y.cls index "java/lang/String" "coder" "B" ∈ lw_all)
    (kk : jv_J x G nL Q M k n (pc + 3) lv (.int (nI 0) :: st)) : jv_J x G nL Q M k n pc lv (.ref s :: st) := by
  rcases h.1 with ⟨i, hi, rfl, rfl, -, -⟩ | ⟨h0, z0, h1, h2⟩
  · exact jv_getK X d ((hG.f X).1.1 i hi).2.1 hlink kk
  · exact jv_get X d h1 (T := TJ5) (N := 4) (C := RJ5) rfl in_J5 1 (by decide) hlink rfl rfl kk
theorem jn_in {j N : Nat} (hj : j < N) (hN : N < 2 ^ 31) : vp_in (nI j) N := by
  intro q
  rcases q with q | q
  · exact absurd q (Int32.not_lt.mpr (nI_pos' (by omega)))
  · rw [nI_clamp (by omega)] at q; omega
theorem jv_bard {j : Nat} {v : Int32} (X : jv_C x G y cc nL ret fr mc ms lo) (d : decode cc pc = .ok (.baload, 1)) (hG : jk_G G σ) (h : jbar G σ M b N f) (hN : N < 2 ^ 31) (hj : j < N) (hv : f j = v)
    (kk : jv_J x G nL Q M k n (pc + 1) lv (.int v :: st)) : jv_J x G nL Q M k n pc lv (.int (nI j) :: .ref b :: st) := by
  rcases h with ⟨i, hi, rfl, rfl, h4⟩ | h
  · exact jv_baldK X d ((hG.f X).1.1 i hi).2.2.2 (jn_in hj hN) (by show Value.int (jk_b i (nI j).toNatClampNeg) = _; rw [nI_clamp (by omega), ← h4 j hj, hv]) kk
  · exact jv_bald X d h (jn_in hj hN) (by rw [nI_clamp (by omega)]; exact hv) kk
theorem jv_barl (X : jv_C x G y cc nL ret fr mc ms lo) (d : decode cc pc = .ok (.arraylength, 1)) (hG : jk_G G σ) (h : jbar G σ M b N f)
    (kk : jv_J x G nL Q M k n (pc + 1) lv (.int (nI N) :: st)) : jv_J x G nL Q M k n pc lv (.ref b :: st) := by
  rcases h with ⟨i, hi, rfl, rfl, h4⟩ | h
  · exact jv_alenK X d ((hG.f X).1.1 i hi).2.2.2 rfl kk
  · exact jv_alen (t0 := 2) X d h rfl rfl kk
variable {z : MethodName} {bytes : ByteArray} {maxL index fr' mc' ms' lo' : Nat} {zr : Option FieldType} {As rest : List Value} {Qc : Array Value → State → Outcome → State → Prop}
theorem jv_runVs (X : jv_C x G y cc nL ret fr mc ms lo) (d : decode cc pc = .ok (.invokevirtual index, 3)) (hG : jk_G G σ) (h : jstr G σ M s b N g) (hz : z.cls = RJ5) (hC : jv_Ct G (jv_l x) z bytes maxL zr fr' mc' ms' lo' (.ref s :: As) M Qc) (hT : GoodIn lw_all (wsV y.cls index z.cls z (ws_ z bytes maxL zr))) (hd : jv_dd z As.length) (hfr : fr' + 1 ≤ fr) (hlo : 8 + (maxL + 11) + lo' ≤ lo) (hk : k + mc' ≤ mc) (hn : n + ms' ≤ ms) (hst : st = As.reverse ++ .ref s :: rest) (hrm : (rest.map fun v => v.category).sum ≤ 8) :
    jv_Run x G nL M k n mc' ms' pc lv st rest (Qc (Value.ref s :: As).toArray) := by
  rcases h.1 with ⟨i, hi, rfl, rfl, -, -⟩ | ⟨h0, z0, h1, h2⟩
  · exact jv_runVK X d hG hi rfl hz hC hT hd hfr hlo hk hn hst hrm
  · exact jv_runV X d hC hT hd h1 (T := TJ5) (N := 4) (by rw [hz]; rfl) hfr hlo hk hn hst hrm
end JS
