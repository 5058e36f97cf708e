/-! a superclass's method that its class inherits; rules of any kind -/
set_option maxRecDepth 100000
section JSU
variable {x : jv_X} {G : jv_G} {y : MethodName} {cc : ByteArray} {nL fr mc ms lo : Nat} {ret : Option FieldType} {Q : State → Prop} {M : jv_M} {k n pc : Nat} {lv : List (Nat × Value)} {st : List Value} {σ : jk_A}
variable {z : MethodName} {xc C : String} {bytes : ByteArray} {maxL index fr' mc' ms' lo' : Nat} {zr : Option FieldType} {As rest : List Value} {Qc : Array Value → State → Outcome → State → Prop}
theorem jv_runSU2 {ci b : Nat} {fs : List Value} {T : u_T} {N : Nat} (X : jv_C x G y cc nL ret fr mc ms lo) (d : decode cc pc = .ok (.invokespecial index, 3)) (hC : jv_Ct G (jv_l x) z bytes maxL zr fr' mc' ms' lo' (.ref b :: As) M Qc) (h1 : Cond.methodLink y.cls index ⟨xc, z.name, z.desc⟩ ∈ lw_all) (h2 : Cond.sameMethod xc z.cls z.name z.desc ∈ lw_all) (h3 : Cond.superclass y.cls xc ∈ lw_all) (h3' : Cond.superclass xc z.cls ∈ lw_all) (h4 : Cond.instanceMethod z ∈ lw_all) (h5 : Cond.initialized z.cls ∈ lw_all) (h6 : Cond.code z bytes maxL zr ∈ lw_all) (hno : z.name ≠ "<init>") (hd : jv_dd z As.length) (hm : M b = some (.inr (ci, fs))) (hc : jv_cl[ci]? = some (C, T, N)) (hfr : fr' + 1 ≤ fr) (hlo : 8 + (maxL + 11) + lo' ≤ lo) (hk : k + mc' ≤ mc) (hn : n + ms' ≤ ms) (hst : st = As.reverse ++ .ref b :: rest) (hrm : (rest.map fun v => v.category).sum ≤ 8) :
    jv_Run x G nL M k n mc' ms' pc lv st rest (Qc (Value.ref b :: As).toArray) := fun H locs ls hP hS hl => by
  have hp := jv_pre (As := .ref b :: As) X hP hS
  have hK : Back (jv_l x) (jv_R x) (jv_p x) (jv_e x) (jv_b x) (jv_s x) (jv_a x) z 3 8 (PreOf (jv_R x) mc' ms' (va_Pc (.ref b :: As) (fun U => jv_E G U ∧ jv_H G M U.heap))) (PostOf Qc mc' ms' (jv_fr G)) := back_of (bytes := bytes) (maxL := maxL) (ret := zr) hC hp.1 rfl rfl (by rw [X.room]; exact hfr) (by rw [X.room]; exact hlo) (pay_in X.hts (lw_meth h6)) List.mem_cons_self (fun a' U hW => word_at hW (Or.inl (by first | rfl | simp [Cond.onTables, Cond.keeps, Cond.steady])) (X.hts _ h5))
  obtain ⟨cellB, hcB, hoB, hclB⟩ := va_recv X.K (jv_one hP hm) (q0 := 0) hc rfl
  obtain ⟨hfc, kB, hkB, -⟩ := (X.K.1 ci _ hc).2
  rw [Option.some.inj (hfc.symm.trans hclB)] at hkB
  intro T hT X0
  obtain ⟨mk, methM, hnamed, hmethM, hstM, habM⟩ := Cond.instanceMethod_spec (X.hts _ h4)
  obtain ⟨methM', cM, hmethM', -, -, -, -, -, -, hsigM⟩ := Cond.code_spec hnamed (X.hts _ h6)
  cases hmethM.symm.trans hmethM'
  obtain ⟨ps, dk, kp, hps, hdk, hkp, hsuper, -, -, hnid⟩ := Cond.superclass_spec X.own (X.hts _ h3)
  obtain ⟨ps2, dk2, kp2, hps2, hdk2, hkp2, hsuper2, -, -, hnid2⟩ := Cond.superclass_spec hps (X.hts _ h3')
  have hn' : (jv_s x).methodNamed? ⟨z.cls, z.name, z.desc⟩ = some mk := hnamed
  have hpm : ps2 = mk.cls := Option.some.inj (hps2.symm.trans (findClass_of_methodNamed hnamed))
  have hsz : 0 < (jv_s x).vm.classes.size := Nat.lt_of_le_of_lt (Nat.zero_le _) (Array.getElem?_eq_some_iff.mp hdk2).1
  obtain ⟨w, hw⟩ : ∃ w, (jv_s x).vm.classes.size = w + 1 := ⟨(jv_s x).vm.classes.size - 1, by omega⟩
  have hsub : (jv_s x).vm.isSubclass ps mk.cls = true := by
    rw [← hpm]
    simp [Vm.isSubclass, hw, Vm.isSubclassAux, hdk2, hsuper2]
  obtain ⟨vm₁, X₁, hstep₁⟩ := X0.invokespecialUp X.exec (owner := z.cls) (x := ⟨xc, z.name, z.desc⟩) X.own (X.hts _ h1) (X.hts _ h2) hn' hmethM hstM habM hno hdk hnid hps hsuper hsub (a := b) (cell := cellB) (by rw [hT]; exact hcB)
    (fun z h => by rw [h] at hoB; cases hoB) hkB (g := F0 (jv_m x) pc ls st) rfl (argsL := As) (rest := rest) (by have h9 := hd.2.2; rw [hsigM] at h9; exact (Option.some.inj h9).symm) hst (by rw [X.code]; exact d)
  obtain ⟨v, ⟨U', l2, c2, s2⟩, X', ⟨g', mk2, t, L, e1, e2, hq, g1, hL, g2, g3⟩, hsteps⟩ := hK (jv_m x) (jv_h x) (jv_c x) ⟨T.setVm vm₁, locs, k, n⟩ { (F0 (jv_m x) pc ls st) with stack := rest } (.invokespecial index) mk (Value.ref b :: As).toArray X₁ rfl (hl.1.trans X.2.2.1.symm) (by rw [X.code]; exact d) (lv_room hrm) (X₁.named hnamed) ⟨by rw [X.room]; exact hk, by rw [X.room]; exact hn, hp.2 (T.setVm vm₁) hT X₁.warmed⟩
  dsimp only [Pt.U, Pt.locs, Pt.cells, Pt.slots] at X' e1 e2 g1 g2 g3 hsteps
  subst g1; subst g2; subst g3
  exact ⟨v, (T.setVm vm₁).calling g' mk2 (Value.ref b :: As).toArray, t, U', L, hT, X', hL, e1, e2, hq, fun target h => hstep₁ _ (by rw [doInvoke_state]; exact hsteps.trans h)⟩
end JSU
