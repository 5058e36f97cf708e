/-! rows over the memory, second: calls of inherited, overriding and abstract methods, of a superclass's; copies of arrays; classes -/
set_option maxRecDepth 100000
theorem lw_U {own C owner : String} {idx : Nat} {x y : MethodName} {b : ByteArray} {L : Nat} {r : Option FieldType} (h1 : Cond.methodLink own idx x ∈ lw_all) (h2 : Cond.sameMethod x.cls owner x.name x.desc ∈ lw_all) (h3 : Cond.selects C x y ∈ lw_all) (h4 : Cond.instanceMethod y ∈ lw_all) (h5 : Cond.initialized y.cls ∈ lw_all) (h6 : Cond.code y b L r ∈ lw_all) : GoodIn lw_all (va_wsU own idx C owner x y (ws_ y b L r)) := by
  refine lw_app ?_ (lw_meth h6)
  intro w hw
  simp only [List.mem_cons, List.not_mem_nil, or_false] at hw
  rcases hw with e | e | e | e | e
  · rw [e]; exact h1
  · rw [e]; exact h2
  · rw [e]; exact h3
  · rw [e]; exact h4
  · rw [e]; exact h5
theorem lw_O {own C owner : String} {idx : Nat} {x y : MethodName} {b : ByteArray} {L : Nat} {r : Option FieldType} (h1 : Cond.methodLink own idx x ∈ lw_all) (h2 : Cond.sameMethod x.cls owner x.name x.desc ∈ lw_all) (h0 : Cond.instanceMethod ⟨owner, x.name, x.desc⟩ ∈ lw_all) (h3 : Cond.selects C x y ∈ lw_all) (h4 : Cond.instanceMethod y ∈ lw_all) (h5 : Cond.initialized y.cls ∈ lw_all) (h6 : Cond.code y b L r ∈ lw_all) : GoodIn lw_all (va_wsO own idx C owner x y (ws_ y b L r)) := by
  refine lw_app ?_ (lw_meth h6)
  intro w hw
  simp only [List.mem_cons, List.not_mem_nil, or_false] at hw
  rcases hw with e | e | e | e | e | e
  · rw [e]; exact h1
  · rw [e]; exact h2
  · rw [e]; exact h0
  · rw [e]; exact h3
  · rw [e]; exact h4
  · rw [e]; exact h5
theorem lw_SU {own : String} {idx : Nat} {y : MethodName} {b : ByteArray} {L : Nat} {r : Option FieldType} (h1 : Cond.methodLink own idx y ∈ lw_all) (h2 : Cond.sameMethod y.cls y.cls y.name y.desc ∈ lw_all) (h3 : Cond.superclass own y.cls ∈ lw_all) (h4 : Cond.instanceMethod y ∈ lw_all) (h5 : Cond.initialized y.cls ∈ lw_all) (h6 : Cond.code y b L r ∈ lw_all) : GoodIn lw_all (va_wsSU own idx y (ws_ y b L r)) := by
  refine lw_app ?_ (lw_meth h6)
  intro w hw
  simp only [List.mem_cons, List.not_mem_nil, or_false] at hw
  rcases hw with e | e | e | e | e
  · rw [e]; exact h1
  · rw [e]; exact h2
  · rw [e]; exact h3
  · rw [e]; exact h4
  · rw [e]; exact h5
section JU
variable {x : jv_X} {G : jv_G} {y : MethodName} {cc : ByteArray} {nL fr mc ms lo : Nat} {ret : Option FieldType} {Q : State → Prop} {M : jv_M} {k n pc : Nat} {lv : List (Nat × Value)} {st : List Value} {σ : jk_A}
variable {xm z : MethodName} {owner C : String} {bytes b0 : ByteArray} {maxL index fr' mc' ms' lo' m0 : Nat} {zr r0 : Option FieldType} {As rest : List Value} {Qc : Array Value → State → Outcome → State → Prop}
/-- what the call of an inherited or overriding method asks, in the walk's own words -/
abbrev jv_CU (x : jv_X) (y : MethodName) (C owner : String) (index : Nat) (xm z : MethodName) (bytes : ByteArray) (maxL : Nat) (zr : Option FieldType) (fr' mc' ms' lo' n : Nat) : Prop :=
  va_CU (jv_R x) (jv_s x) (jv_a x) y.cls C owner index xm z bytes maxL zr (ws_ z bytes maxL zr) ({ frames := fr', cells := mc', slots := ms', locals := lo' } : Room) mc' ms' n
theorem jv_cuI (X : jv_C x G y cc nL ret fr mc ms lo) {N : Nat} (hT : GoodIn lw_all (va_wsU y.cls index C owner xm z (ws_ z bytes maxL zr))) (hzx : z = ⟨owner, xm.name, xm.desc⟩) (ho : owner ≠ "java/lang/invoke/MethodHandle" ∧ owner ≠ "java/lang/invoke/VarHandle") (hd : jv_dd xm N) (hfr : fr' + 1 ≤ fr) (hlo : 8 + (maxL + 11) + lo' ≤ lo) : jv_CU x y C owner index xm z bytes maxL zr fr' mc' ms' lo' N :=
  va_cwU N X.hts hT rfl rfl rfl hzx ⟨ho.1, ho.2, hd.2.2⟩ (by rw [X.room]; exact ⟨hfr, hlo⟩)
theorem jv_cuO (X : jv_C x G y cc nL ret fr mc ms lo) {N : Nat} (hT : GoodIn lw_all (va_wsO y.cls index C owner xm z (ws_ z bytes maxL zr))) (h0 : Cond.code ⟨owner, xm.name, xm.desc⟩ b0 m0 r0 ∈ lw_all) (ho : owner ≠ "java/lang/invoke/MethodHandle" ∧ owner ≠ "java/lang/invoke/VarHandle") (hd : jv_dd xm N) (hfr : fr' + 1 ≤ fr) (hlo : 8 + (maxL + 11) + lo' ≤ lo) : jv_CU x y C owner index xm z bytes maxL zr fr' mc' ms' lo' N :=
  va_cwO N X.hts hT rfl rfl rfl h0 ⟨ho.1, ho.2, hd.2.2⟩ (by rw [X.room]; exact ⟨hfr, hlo⟩)
theorem jv_cuA (X : jv_C x G y cc nL ret fr mc ms lo) {N : Nat} (hT : GoodIn lw_all (va_wsU y.cls index C owner xm z (ws_ z bytes maxL zr))) (h0 : Cond.declares ⟨owner, xm.name, xm.desc⟩ ∈ lw_tbl) (ho : owner ≠ "java/lang/invoke/MethodHandle" ∧ owner ≠ "java/lang/invoke/VarHandle") (hd : jv_dd xm N) (hfr : fr' + 1 ≤ fr) (hlo : 8 + (maxL + 11) + lo' ≤ lo) : jv_CU x y C owner index xm z bytes maxL zr fr' mc' ms' lo' N :=
  va_cwA N X.hts hT rfl rfl rfl (X.nw h0 rfl) ⟨ho.1, ho.2, hd.2.2⟩ (by rw [X.room]; exact ⟨hfr, hlo⟩)
theorem jv_runU {ci b : Nat} {fs : List Value} {T : u_T} {N : Nat} (X : jv_C x G y cc nL ret fr mc ms lo) (d : decode cc pc = .ok (.invokevirtual index, 3)) (hC : jv_Ct G (jv_l x) z bytes maxL zr fr' mc' ms' lo' (.ref b :: As) M Qc) (hcw : jv_CU x y C owner index xm z bytes maxL zr fr' mc' ms' lo' As.length) (hm : M b = some (.inr (ci, fs))) (hc : jv_cl[ci]? = some (C, T, N)) (hk : k + mc' ≤ mc) (hn : n + ms' ≤ ms) (hst : st = As.reverse ++ .ref b :: rest) (hrm : (rest.map fun v => v.category).sum ≤ 8) :
    jv_Run x G nL M k n mc' ms' pc lv st rest (Qc (Value.ref b :: As).toArray) := fun H locs ls hP hS hl =>
  va_runU (C := C) ⟨X.exec, X.code, X.2.2.1, X.own, X.hts⟩ hC hcw ⟨(jv_pre X hP hS).1, va_recv X.K (jv_one hP hm) (q0 := 0) hc rfl, (jv_pre X hP hS).2⟩ rfl rfl hl.1 hst (lv_room hrm) d (by rw [X.room]; exact ⟨hk, hn⟩)
theorem jv_runSU {ci b : Nat} {fs : List Value} {T : u_T} {N : Nat} (X : jv_C x G y cc nL ret fr mc ms lo) (d : decode cc pc = .ok (.invokespecial index, 3)) (hC : jv_Ct G (jv_l x) z bytes maxL zr fr' mc' ms' lo' (.ref b :: As) M Qc) (hT : GoodIn lw_all (va_wsSU y.cls index z (ws_ z bytes maxL zr))) (hno : z.name ≠ "<init>") (hd : jv_dd z As.length) (hm : M b = some (.inr (ci, fs))) (hc : jv_cl[ci]? = some (C, T, N)) (hfr : fr' + 1 ≤ fr) (hlo : 8 + (maxL + 11) + lo' ≤ lo) (hk : k + mc' ≤ mc) (hn : n + ms' ≤ ms) (hst : st = As.reverse ++ .ref b :: rest) (hrm : (rest.map fun v => v.category).sum ≤ 8) :
    jv_Run x G nL M k n mc' ms' pc lv st rest (Qc (Value.ref b :: As).toArray) := fun H locs ls hP hS hl =>
  va_runSU (C := C) ((X.K.1 ci _ hc).2) ⟨X.exec, X.code, X.2.2.1, X.own, X.hts⟩ hC (va_cwSU As.length X.hts hT rfl rfl rfl ⟨hno, hd.2.2⟩ (by rw [X.room]; exact ⟨hfr, hlo⟩)) ⟨(jv_pre X hP hS).1, va_recv X.K (jv_one hP hm) (q0 := 0) hc rfl, (jv_pre X hP hS).2⟩ rfl rfl hl.1 hst (lv_room hrm) d (by rw [X.room]; exact ⟨hk, hn⟩)
end JU
/-- an object that may lie in an array of objects -/
def jobj (M : jv_M) (v : Nat) : Prop := ∃ (ci : Nat) (vs : List Value) (r : vw_C), M v = some (.inr (ci, vs)) ∧ jv_cl[ci]? = some r ∧ Cond.castable r.1 "java/lang/Object" ∈ lw_tbl
section JX
variable {x : jv_X} {G : jv_G} {y : MethodName} {cc : ByteArray} {nL fr mc ms lo : Nat} {ret : Option FieldType} {Q : State → Prop} {M : jv_M} {k n pc : Nat} {lv : List (Nat × Value)} {st rest : List Value} {σ : jk_A} {index : Nat}
theorem jv_any {H : Heap} {v : Nat} (X : jv_C x G y cc nL ret fr mc ms lo) (hP : jv_H G M H) (h : jobj M v) : va_Any "java/lang/Object" (jv_s x) H v := by
  obtain ⟨ci, vs, r, hm, hc, hq⟩ := h
  refine va_rAny X.K (jv_one hP hm) (q0 := 0) rfl hc (fun comp c0 h1 h2 => ?_)
  obtain ⟨c1, t0, f1, f2, f3⟩ := Cond.castable_spec (va_Nw.use (A := jv_a x) rfl (X.nw hq rfl))
  cases h2.symm.trans f1
  cases h1.symm.trans f2
  exact f3
theorem jv_copyq {a0 a n0 n1 : Nat} {f g h : Nat → Option Nat} {sp dp w : Nat} (X : jv_C x G y cc nL ret fr mc ms lo) (d : decode cc pc = .ok (.invokestatic index, 3)) (hlink : Cond.methodLink y.cls index arraycopyName ∈ lw_all) (hnat : Cond.native arraycopyName ∈ lw_all) (hstat : Cond.static arraycopyName ∈ lw_all) (hini : Cond.initialized "java/lang/System" ∈ lw_all)
    (hm0 : M a0 = some (.inl (G.2.2.1 1, n0, .inr (.inr (.inr (.inr f)))))) (hm1 : M a = some (.inl (G.2.2.1 1, n1, .inr (.inr (.inr (.inr g)))))) (hfr0 : G.1 ≤ a0) (hfr : G.1 ≤ a) (h1 : sp + w ≤ n0) (h2 : dp + w ≤ n1) (hN0 : n0 < 2 ^ 31) (hN1 : n1 < 2 ^ 31) (hel : ∀ i, i < w → ∀ v, f (sp + i) = some v → jobj M v) (hframes : 1 ≤ fr) (hlo : (rest.map fun v => v.category).sum + 18 ≤ lo) (hh : va_cpy f g sp dp w = h)
    (kk : jv_J x G nL Q (jv_up M a (.inl (G.2.2.1 1, n1, .inr (.inr (.inr (.inr h)))))) k n (pc + 3) lv rest) : jv_J x G nL Q M k n pc lv (.int (nI w) :: .int (nI dp) :: .ref a :: .int (nI sp) :: .ref a0 :: rest) := fun H locs ls hP hS hls =>
  have c1 : (nI sp).toNatClampNeg = sp := nI_clamp (by omega)
  have c2 : (nI dp).toNatClampNeg = dp := nI_clamp (by omega)
  have c3 : (nI w).toNatClampNeg = w := nI_clamp (by omega)
  have hw : nativeFrameWords "java/lang/System" "arraycopy" 5 = 7 := by decide
  jv_write hP hS hm1 hfr [a0] (fun q h => by rw [List.mem_singleton.mp h]; exact hfr0) (fun ws A k0 h1' h2' h3' h4' h5' g1 => by
    obtain ⟨kv, hkv⟩ := h5' a0 _ (List.mem_singleton.mpr rfl) hm0
    exact va_copyM X.exec X.code (X.2.2.1.trans hls.1.symm) X.own (X.hts _ hlink) (X.hts _ hnat) (X.hts _ hstat) (X.hts _ hini) X.K h1' h2' h3' kv k0 1 1 hkv h4' rfl rfl (Int32.not_lt.mpr (nI_pos' (by omega))) (Int32.not_lt.mpr (nI_pos' (by omega))) (Int32.not_lt.mpr (nI_pos' (by omega))) (by rw [c1, c3]; exact h1) (by rw [c2, c3]; exact h2)
      (fun i hi v hv => jv_any X hP (hel i (by rw [c3] at hi; exact hi) v (by rw [c1] at hv; exact hv))) (by rw [X.room]; exact hframes) (by rw [X.room, hw]; exact hlo) d (by rw [c1, c2, c3, hh]; exact g1)) (fun H1 l1 a1 a2 => kk H1 l1 ls a1 a2 hls)
theorem jv_copyb {a0 a n0 n1 : Nat} {f g h : Nat → Int32} {sp dp w : Nat} (X : jv_C x G y cc nL ret fr mc ms lo) (d : decode cc pc = .ok (.invokestatic index, 3)) (hlink : Cond.methodLink y.cls index arraycopyName ∈ lw_all) (hnat : Cond.native arraycopyName ∈ lw_all) (hstat : Cond.static arraycopyName ∈ lw_all) (hini : Cond.initialized "java/lang/System" ∈ lw_all)
    (hm0 : M a0 = some (.inl (G.2.2.1 2, n0, .inl f))) (hm1 : M a = some (.inl (G.2.2.1 2, n1, .inl g))) (hfr0 : G.1 ≤ a0) (hfr : G.1 ≤ a) (h1 : sp + w ≤ n0) (h2 : dp + w ≤ n1) (hN0 : n0 < 2 ^ 31) (hN1 : n1 < 2 ^ 31) (hel : ∀ i, i < w → fits .byte (.int (f (sp + i))) = true) (hframes : 1 ≤ fr) (hlo : (rest.map fun v => v.category).sum + 18 ≤ lo) (hh : va_cpy f g sp dp w = h)
    (kk : jv_J x G nL Q (jv_up M a (.inl (G.2.2.1 2, n1, .inl h))) k n (pc + 3) lv rest) : jv_J x G nL Q M k n pc lv (.int (nI w) :: .int (nI dp) :: .ref a :: .int (nI sp) :: .ref a0 :: rest) := fun H locs ls hP hS hls =>
  have c1 : (nI sp).toNatClampNeg = sp := nI_clamp (by omega)
  have c2 : (nI dp).toNatClampNeg = dp := nI_clamp (by omega)
  have c3 : (nI w).toNatClampNeg = w := nI_clamp (by omega)
  have hw : nativeFrameWords "java/lang/System" "arraycopy" 5 = 7 := by decide
  jv_write hP hS hm1 hfr [a0] (fun q h => by rw [List.mem_singleton.mp h]; exact hfr0) (fun ws A k0 h1' h2' h3' h4' h5' g1 => by
    obtain ⟨kv, hkv⟩ := h5' a0 _ (List.mem_singleton.mpr rfl) hm0
    exact va_copyi X.exec X.code (X.2.2.1.trans hls.1.symm) X.own (X.hts _ hlink) (X.hts _ hnat) (X.hts _ hstat) (X.hts _ hini) X.K h1' h2' h3' kv k0 2 2 hkv h4' rfl rfl rfl (Int32.not_lt.mpr (nI_pos' (by omega))) (Int32.not_lt.mpr (nI_pos' (by omega))) (Int32.not_lt.mpr (nI_pos' (by omega))) (by rw [c1, c3]; exact h1) (by rw [c2, c3]; exact h2)
      (fun i hi => by rw [c1]; exact hel i (by rw [c3] at hi; exact hi)) (by rw [X.room]; exact hframes) (by rw [X.room, hw]; exact hlo) d (by rw [c1, c2, c3, hh]; exact g1)) (fun H1 l1 a1 a2 => kk H1 l1 ls a1 a2 hls)
theorem jv_clonei {a N k1 n1 : Nat} {f : Nat → Int32} (X : jv_C x G y cc nL ret fr mc ms lo) (d : decode cc pc = .ok (.invokevirtual index, 3)) (hlink : Cond.methodLink y.cls index ⟨"[I", "clone", "()Ljava/lang/Object;"⟩ ∈ lw_all) (hsame : Cond.sameMethod "[I" "java/lang/Object" "clone" "()Ljava/lang/Object;" ∈ lw_all) (hnat : Cond.native ⟨"java/lang/Object", "clone", "()Ljava/lang/Object;"⟩ ∈ lw_all) (hinst : Cond.instanceMethod ⟨"java/lang/Object", "clone", "()Ljava/lang/Object;"⟩ ∈ lw_all) (hsel : Cond.selects "[I" ⟨"[I", "clone", "()Ljava/lang/Object;"⟩ ⟨"java/lang/Object", "clone", "()Ljava/lang/Object;"⟩ ∈ lw_all) (hcl : Cond.castable "[I" "java/lang/Cloneable" ∈ lw_tbl)
    (hm : M a = some (.inl (G.2.2.1 0, N, .inl f))) (hfa : G.1 ≤ a) (hframes : 1 ≤ fr) (hlo : (rest.map fun v => v.category).sum + 14 ≤ lo) (hk1 : k + 1 = k1) (hn1 : n + N = n1) (hk : k1 ≤ mc) (hn : n1 ≤ ms)
    (kk : ∀ q : Nat, M q = none → G.1 ≤ q → jv_J x G nL Q (jv_up M q (.inl (G.2.2.1 0, N, .inl f))) k1 n1 (pc + 3) lv (.ref q :: rest)) : jv_J x G nL Q M k n pc lv (.ref a :: rest) := fun H locs ls hP hS hls => by
  subst hk1; subst hn1
  have hR := X.room
  obtain ⟨ws0, g1, g2, g3, g4⟩ := jv_world hP (a :: locs.map (fun l => l.base))
  obtain ⟨k0, hk0⟩ := g3 a _ List.mem_cons_self hm
  have hfrA : ∀ q : Nat, ((jv_s x).heap.size ≤ q ∨ q ∈ a :: locs.map (fun l => l.base)) → jv_fr G q := by
    intro q hq
    rcases hq with hq | hq
    · exact X.new q hq
    · rcases List.mem_cons.mp hq with rfl | hq
      · exact hfa
      · obtain ⟨l, hl, rfl⟩ := List.mem_map.mp hq
        exact hS.2.2 l hl
  have hS' : va_S (fun q => H.size ≤ q ∨ q ∈ a :: locs.map (fun l => l.base)) H H locs := ⟨Nat.le_refl _, fun _ _ _ => rfl, fun l hl => Or.inr (List.mem_cons_of_mem _ (List.mem_map_of_mem hl))⟩
  refine va_clone X.exec X.code (X.2.2.1.trans hls.1.symm) X.own (X.hts _ hlink) (X.hts _ hsame) (X.hts _ hnat) (X.hts _ hinst) (X.hts _ hsel) (X.nw hcl rfl) X.K g1 (A := fun q => H.size ≤ q ∨ q ∈ a :: locs.map (fun l => l.base)) (g2.weaken (fun k q _ h => Or.inr h)) hS' (fun q h => Or.inl h) k0 0 hk0 rfl ((X.K.2 0 _ rfl).2) (fun i v hv => va_fit (fun i hi => rfl) i v hv) (by rw [hR]; exact hframes) (by rw [hR]; exact hlo) (by rw [hR]; exact hk) (by rw [hR]; exact hn) d (fun q H1 _ b2 b3 b4 => ?_)
  have hlast : (ws0 ++ [(q, (Sum.inl (G.2.2.1 0, N, Sum.inl f) : va_E))])[ws0.length]? = some (q, .inl (G.2.2.1 0, N, .inl f)) := by rw [List.getElem?_append_right (Nat.le_refl _), Nat.sub_self]; rfl
  have hq := b3.2 _ _ hlast
  have hnew : M q = none := by
    cases hmq : M q with
    | none => rfl
    | some eb =>
      have hlt := (hP q eb hmq).lt
      rcases hq with hq | hq
      · exact absurd hlt (Nat.not_lt.mpr hq)
      · obtain ⟨kq, hkq⟩ := g3 q eb hq hmq
        have hkl := (List.getElem?_eq_some_iff.mp hkq).1
        have := b3.1 kq ws0.length (q, eb) (q, _) (by rw [List.getElem?_append_left hkl]; exact hkq) hlast rfl
        omega
  refine kk q hnew (hfrA q (hq.imp (fun h => Nat.le_trans hS.1 h) id)) H1 locs ls ?_ ?_ hls
  · intro b eb hb2
    by_cases hba : b = q
    · subst hba
      rw [jv_up_s] at hb2
      cases hb2
      exact b2 _ _ hlast
    · rw [jv_up_n hba] at hb2
      have hlt := (hP b eb hb2).lt
      by_cases hin : b ∈ a :: locs.map (fun l => l.base)
      · obtain ⟨kq, hkq⟩ := g3 b eb hin hb2
        have hkl := (List.getElem?_eq_some_iff.mp hkq).1
        exact b2 kq _ (by rw [List.getElem?_append_left hkl]; exact hkq)
      · exact (hP b eb hb2).kept (b4.2.1 b hlt (fun z => z.elim (fun z => Nat.not_le.mpr hlt z) hin))
  · refine ⟨Nat.le_trans hS.1 b4.1, fun p hp hn => ?_, fun l hl => hS.2.2 l hl⟩
    rw [b4.2.1 p (Nat.lt_of_lt_of_le hp hS.1) (fun z => hn (hfrA p (z.imp (fun h => Nat.le_trans hS.1 h) id)))]
    exact hS.2.1 p hp hn
theorem jv_getC {a N : Nat} {f : Nat → Option Nat} (X : jv_C x G y cc nL ret fr mc ms lo) (d : decode cc pc = .ok (.invokevirtual index, 3)) (hG : jk_G G σ) (hlink : Cond.methodLink y.cls index ⟨"java/lang/Object", "getClass", "()Ljava/lang/Class;"⟩ ∈ lw_all) (hdecl : Cond.declares ⟨"java/lang/Object", "getClass", "()Ljava/lang/Class;"⟩ ∈ lw_tbl) (hsel : Cond.selects "[Ljava/lang/Object;" ⟨"java/lang/Object", "getClass", "()Ljava/lang/Class;"⟩ ⟨"java/lang/Object", "getClass", "()Ljava/lang/Class;"⟩ ∈ lw_all) (hinst : Cond.instanceMethod ⟨"java/lang/Object", "getClass", "()Ljava/lang/Class;"⟩ ∈ lw_all) (hnat : Cond.native ⟨"java/lang/Object", "getClass", "()Ljava/lang/Class;"⟩ ∈ lw_all)
    (hm : M a = some (.inl (G.2.2.1 1, N, .inr (.inr (.inr (.inr f)))))) (hframes : 1 ≤ fr) (hlo : (rest.map fun v => v.category).sum + 14 ≤ lo)
    (kk : jv_J x G nL Q M k n (pc + 3) lv (.ref (σ.2.2 5) :: rest)) : jv_J x G nL Q M k n pc lv (.ref a :: rest) := fun H locs ls hP hS hls =>
  va_getC X.exec X.code (X.2.2.1.trans hls.1.symm) X.own (X.hts _ hlink) (va_Nw.use rfl (X.nw hdecl rfl)) (X.hts _ hsel) (X.hts _ hinst) (X.hts _ hnat) (hG.f X).2.2.2.1 ⟨_, hP a _ hm, rfl, va_nmO (X.K.2 1 _ rfl).2 rfl⟩ (by rw [X.room]; exact hframes) (by rw [X.room]; exact hlo) d (kk H locs ls hP hS hls)
theorem jv_ldcM (X : jv_C x G y cc nL ret fr mc ms lo) (d : decode cc pc = .ok (.ldc index, 2)) (hG : jk_G G σ) (hlink : Cond.classLink y.cls index "[Ljava/lang/Object;" ∈ lw_all)
    (kk : jv_J x G nL Q M k n (pc + 2) lv (.ref (σ.2.2 5) :: st)) : jv_J x G nL Q M k n pc lv st := fun H locs ls hP hS hls =>
  va_ldcM X.exec X.code X.own (X.hts _ hlink) (hG.f X).2.2.2.1 d (kk H locs ls hP hS hls)
theorem jv_acmp_eq {a b : Nat} {off : Int} (tgt : Nat) (X : jv_C x G y cc nL ret fr mc ms lo) (d : decode cc pc = .ok (.if_acmp .eq off, 3)) (ht : (pc : Int) + off = (tgt : Int)) (kt : a = b → jv_J x G nL Q M k n tgt lv rest) (kf : ¬ a = b → jv_J x G nL Q M k n (pc + 3) lv rest) : jv_J x G nL Q M k n pc lv (.ref b :: .ref a :: rest) := fun H locs ls hP hS hl =>
  lv_acmp_eq (rx := some a) (ry := some b) X.exec X.code d ht (fun h => kt (Option.some.inj h) H locs ls hP hS hl) (fun h => kf (fun e => h (by rw [e])) H locs ls hP hS hl)
theorem jv_acmp_ne {a b : Nat} {off : Int} (tgt : Nat) (X : jv_C x G y cc nL ret fr mc ms lo) (d : decode cc pc = .ok (.if_acmp .ne off, 3)) (ht : (pc : Int) + off = (tgt : Int)) (kt : ¬ a = b → jv_J x G nL Q M k n tgt lv rest) (kf : a = b → jv_J x G nL Q M k n (pc + 3) lv rest) : jv_J x G nL Q M k n pc lv (.ref b :: .ref a :: rest) := fun H locs ls hP hS hl =>
  lv_acmp_ne (rx := some a) (ry := some b) X.exec X.code d ht (fun h => kt (fun e => h (by rw [e])) H locs ls hP hS hl) (fun h => kf (Option.some.inj h) H locs ls hP hS hl)
theorem mx_n {p o : Nat} (hp : p < 2 ^ 31) (ho : o < 2 ^ 31) : (if nI p < nI o then nI o else nI p) = nI (if o ≤ p then p else o) := by
  by_cases h : o ≤ p
  · rw [if_pos h, if_neg]
    intro z
    have := (nI_leI ho hp).mpr h
    exact absurd z (Int32.not_lt.mpr this)
  · rw [if_neg h, if_pos]
    exact Int32.not_le.mp fun z => h ((nI_leI ho hp).mp z)
theorem mn_n {p o : Nat} (hp : p < 2 ^ 31) (ho : o < 2 ^ 31) : (if nI o < nI p then nI o else nI p) = nI (if p ≤ o then p else o) := by
  by_cases h : p ≤ o
  · rw [if_pos h, if_neg]
    intro z
    have := (nI_leI hp ho).mpr h
    exact absurd z (Int32.not_lt.mpr this)
  · rw [if_neg h, if_pos]
    exact Int32.not_le.mp fun z => h ((nI_leI hp ho).mp z)
theorem jv_mmax {u v w : Int32} (X : jv_C x G y cc nL ret fr mc ms lo) (d : decode cc pc = .ok (.invokestatic index, 3)) (hlink : Cond.methodLink y.cls index Lib.Math.max.name ∈ lw_all) (hstat : Cond.static Lib.Math.max.name ∈ lw_all) (hini : Cond.initialized "java/lang/Math" ∈ lw_all) (hcode : Cond.code Lib.Math.max.name Lib.Math.max.code 2 (some .int) ∈ lw_all) (hframes : 1 ≤ fr) (hlo : (rest.map fun v => v.category).sum + 13 ≤ lo) (hk : k ≤ mc) (hn : n ≤ ms) (hw : (if u < v then v else u) = w)
    (kk : jv_J x G nL Q M k n (pc + 3) lv (.int w :: rest)) : jv_J x G nL Q M k n pc lv (.int v :: .int u :: rest) := fun H locs ls hP hS hls =>
  va_mmax X.exec X.code (X.2.2.1.trans hls.1.symm) X.own (X.hts _ hlink) (X.hts _ hstat) (X.hts _ hini) (X.hts _ hcode) (by rw [X.room]; exact hframes) (by rw [X.room]; exact hlo) (by rw [X.room]; exact hk) (by rw [X.room]; exact hn) d (by rw [hw]; exact kk H locs ls hP hS hls)
theorem jv_mmin {u v w : Int32} (X : jv_C x G y cc nL ret fr mc ms lo) (d : decode cc pc = .ok (.invokestatic index, 3)) (hlink : Cond.methodLink y.cls index Lib.Math.min.name ∈ lw_all) (hstat : Cond.static Lib.Math.min.name ∈ lw_all) (hini : Cond.initialized "java/lang/Math" ∈ lw_all) (hcode : Cond.code Lib.Math.min.name Lib.Math.min.code 2 (some .int) ∈ lw_all) (hframes : 1 ≤ fr) (hlo : (rest.map fun v => v.category).sum + 13 ≤ lo) (hk : k ≤ mc) (hn : n ≤ ms) (hw : (if v < u then v else u) = w)
    (kk : jv_J x G nL Q M k n (pc + 3) lv (.int w :: rest)) : jv_J x G nL Q M k n pc lv (.int v :: .int u :: rest) := fun H locs ls hP hS hls =>
  va_mmin X.exec X.code (X.2.2.1.trans hls.1.symm) X.own (X.hts _ hlink) (X.hts _ hstat) (X.hts _ hini) (X.hts _ hcode) (by rw [X.room]; exact hframes) (by rw [X.room]; exact hlo) (by rw [X.room]; exact hk) (by rw [X.room]; exact hn) d (by rw [hw]; exact kk H locs ls hP hS hls)
end JX
