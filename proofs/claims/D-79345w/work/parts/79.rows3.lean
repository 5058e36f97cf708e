/-! a private method called on an object of a class below: it is the one selected -/
set_option maxRecDepth 100000
theorem jv_selP {a : Array Value} {s : State} {C : String} {q : Nat} {x : MethodName} (hC : (Cond.instantiable C q).before a s = true) (hsm : (Cond.sameMethod x.cls x.cls x.name x.desc).before a s = true) (hi : (Cond.instanceMethod x).before a s = true) (hp : (Cond.privateMethod x).before a s = true) : (Cond.selects C x x).before a s = true := by
  obtain ⟨c, k, hc, -⟩ := Cond.instantiable_spec hC
  have hP := Cond.privateMethod_at hp
  obtain ⟨r0, r, hn, hrm, -⟩ := Cond.instanceMethod_spec hi
  have hpr := hP r0 r hn hrm
  have hsel := selectMethod_private (p := {}) (c := c) hrm hpr
  simp only [Cond.before, Cond.holds, Cond.value] at hsm ⊢
  have hn' : s.methodNamed? ⟨x.cls, x.name, x.desc⟩ = some r0 := hn
  rw [hn'] at hsm
  rw [hc, hn]
  cases hf : s.vm.findClass x.cls with
  | none => rw [hf] at hsm; simp at hsm
  | some cx =>
    cases hr : s.methodFound? x.cls x.name x.desc with
    | none => rw [hf, hr] at hsm; simp at hsm
    | some rr =>
      rw [hf, hr] at hsm
      simp only [Option.some.injEq, beq_iff_eq, Bool.and_eq_true, decide_eq_true_eq] at hsm
      obtain ⟨e, h2⟩ := hsm
      subst e
      have hcls : rr.cls = cx := by
        unfold State.methodNamed? at hn
        rw [hf] at hn
        simp only [Option.bind_eq_bind, Option.bind_some] at hn
        cases hk : s.vm.classes[cx]? with
        | none => rw [hk] at hn; simp at hn
        | some kk =>
          rw [hk] at hn
          simp only [Option.bind_some] at hn
          cases hm : kk.findMethod x.name x.desc with
          | none => rw [hm] at hn; simp at hn
          | some i => rw [hm] at hn; simp at hn; rw [← hn]
      simp only [hsel, hcls, h2]
      simp
section JP
variable {x : jv_X} {G : jv_G} {y : MethodName} {cc : ByteArray} {nL fr mc ms lo : Nat} {ret : Option FieldType}
variable {xm : MethodName} {C : String} {bytes : ByteArray} {maxL index fr' mc' ms' lo' : Nat} {zr : Option FieldType}
theorem jv_cuP (X : jv_C x G y cc nL ret fr mc ms lo) {N q : Nat} (h1 : Cond.methodLink y.cls index xm ∈ lw_all) (h2 : Cond.sameMethod xm.cls xm.cls xm.name xm.desc ∈ lw_all) (h3 : Cond.privateMethod xm ∈ lw_tbl) (h4 : Cond.instanceMethod xm ∈ lw_all) (h5 : Cond.initialized xm.cls ∈ lw_all) (h6 : Cond.code xm bytes maxL zr ∈ lw_all) (h7 : Cond.instantiable C q ∈ lw_all) (ho : xm.cls ≠ "java/lang/invoke/MethodHandle" ∧ xm.cls ≠ "java/lang/invoke/VarHandle") (hd : jv_dd xm N) (hfr : fr' + 1 ≤ fr) (hlo : 8 + (maxL + 11) + lo' ≤ lo) : jv_CU x y C xm.cls index xm xm bytes maxL zr fr' mc' ms' lo' N := by
  have hR : fr' + 1 ≤ (jv_R x).frames ∧ 8 + (maxL + 11) + lo' ≤ (jv_R x).locals := by rw [X.room]; exact ⟨hfr, hlo⟩
  refine ⟨⟨rfl, rfl, hR.1, hR.2, pay_in X.hts (lw_meth h6), List.mem_cons_self⟩, X.hts _ h6, X.hts _ h5, ⟨ho.1, ho.2⟩, fun sig h => ?_, X.hts _ h1, X.hts _ h2, va_Decl.of (X.hts _ h4) (X.hts _ h6), jv_selP (X.hts _ h7) (X.hts _ h2) (X.hts _ h4) (va_Nw.use rfl (X.nw h3 rfl)), X.hts _ h4⟩
  have h8 := hd.2.2
  rw [h] at h8
  exact (Option.some.inj h8).symm
end JP
