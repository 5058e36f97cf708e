/-! a memory with a list of cells over it -/
set_option maxRecDepth 100000
def jl (M : jv_M) (l : List (Nat × va_E)) : jv_M := fun q => match l.find? (fun p => p.1 == q) with
  | some p => some p.2
  | none => M q
theorem jl_nil {M : jv_M} : jl M [] = M := rfl
theorem jl_hd {M : jv_M} {l : List (Nat × va_E)} {a : Nat} {e : va_E} : jl M ((a, e) :: l) a = some e := by simp [jl]
theorem jl_fresh {M : jv_M} {l : List (Nat × va_E)} {q : Nat} (h : jl M l q = none) : (∀ p ∈ l, p.1 ≠ q) ∧ M q = none := by
  unfold jl at h
  cases hf : l.find? (fun p => p.1 == q) with
  | some p => rw [hf] at h; cases h
  | none => rw [hf] at h; exact ⟨fun p hp => by simpa using (List.find?_eq_none.mp hf) p hp, h⟩
theorem jl_new {M : jv_M} {l : List (Nat × va_E)} {q : Nat} {e : va_E} (h : ∀ p ∈ l, p.1 ≠ q) : jv_up (jl M l) q e = jl M (l ++ [(q, e)]) := by
  funext b
  by_cases hb : b = q
  · subst hb
    rw [jv_up_s]
    unfold jl
    have h1 : l.find? (fun p => p.1 == b) = none := List.find?_eq_none.mpr (fun p hp => by simpa using h p hp)
    rw [List.find?_append, h1]
    simp
  · rw [jv_up_n hb]
    unfold jl
    rw [List.find?_append]
    cases hf : l.find? (fun p => p.1 == b) with
    | some p => simp
    | none =>
      have h2 : (q == b) = false := by simpa using Ne.symm hb
      simp [h2]
theorem jl_put {M : jv_M} {l : List (Nat × va_E)} {a : Nat} {e e' : va_E} : jv_up (jl M ((a, e) :: l)) a e' = jl M ((a, e') :: l) := by
  funext b
  by_cases hb : b = a
  · subst hb; rw [jv_up_s, jl_hd]
  · rw [jv_up_n hb]
    have h2 : (a == b) = false := by simpa using Ne.symm hb
    simp [jl, h2]
def iF : Nat → Int32 := fun k => if k = 8 then (-1) else if k = 9 then (-1) else 0
section JO
variable {x : jv_X} {G : jv_G} {y : MethodName} {cc : ByteArray} {nL fr mc ms lo : Nat} {ret : Option FieldType} {Q : State → Prop} {M : jv_M} {k n pc : Nat} {lv : List (Nat × Value)} {rest : List Value}
theorem jv_obj0 {idx a : Nat} (X : jv_C x G y cc nL ret fr mc ms lo) (d : decode cc pc = .ok (.invokespecial idx, 3)) (hlink : Cond.methodLink y.cls idx Lib.objectInit ∈ lw_all) (hfr : 1 ≤ fr) (hlo : (rest.map fun v => v.category).sum + 12 ≤ lo)
    (kk : jv_J x G nL Q M k n (pc + 3) lv rest) : jv_J x G nL Q M k n pc lv (.ref a :: rest) := fun H locs ls hP hS hl =>
  W.objInit X.exec X.code X.own (X.hts _ hlink) (X.hts _ (show Cond.instanceMethod Lib.objectInit ∈ lw_all from q146)) (X.hts _ (show Cond.code Lib.objectInit ⟨#[0xb1]⟩ 1 none ∈ lw_all from q147)) rfl (by rw [X.2.2.1]; exact hl.1) rfl d (by rw [X.room]; exact hfr) (by rw [X.room]; simpa using hlo) (kk H locs ls hP hS hl)
end JO
theorem pw_inj {ad : Nat → Nat} : ∀ {l : List Nat}, l.Pairwise (fun i j => ad i ≠ ad j) → ∀ i ∈ l, ∀ j ∈ l, ad i = ad j → i = j
  | [], _, i, hi => absurd hi (by simp)
  | x :: l, h, i, hi => fun j hj e => by
    obtain ⟨h1, h2⟩ := List.pairwise_cons.mp h
    rcases List.mem_cons.mp hi with z | z
    · rcases List.mem_cons.mp hj with w | w
      · rw [z, w]
      · exact absurd (z ▸ e) (h1 j w)
    · rcases List.mem_cons.mp hj with w | w
      · exact absurd (w ▸ e).symm (h1 i z)
      · exact pw_inj h2 i z j w e
