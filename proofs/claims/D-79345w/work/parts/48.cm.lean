/-! cells of a general memory: what stays where something is written or made -/
set_option maxRecDepth 100000
/-- a cell's kind -/
def ck : va_E → Nat
  | .inl (_, _, .inl _) => 1000
  | .inl _ => 1001
  | .inr (c, _) => c
theorem ck_ne {M : jv_M} {a b : Nat} {e1 e2 : va_E} (h1 : M a = some e1) (h2 : M b = some e2) (h : (ck e1 == ck e2) = false) : a ≠ b := by
  intro e
  subst e
  rw [h1] at h2
  cases h2
  simp at h
theorem new_ne {M : jv_M} {a q : Nat} {e : va_E} (hn : M q = none) (h : M a = some e) : a ≠ q := by
  intro z
  subst z
  rw [hn] at h
  cases h
/-- all that was known stays -/
def jag (M M' : jv_M) : Prop := ∀ b, M b ≠ none → M' b = M b
theorem jag.rf {M : jv_M} : jag M M := fun _ _ => rfl
theorem jag.tr {M M1 M2 : jv_M} (h : jag M M1) (h2 : jag M1 M2) : jag M M2 := fun b hb => (h2 b (by rw [h b hb]; exact hb)).trans (h b hb)
theorem jag.new {M M1 : jv_M} {q : Nat} {e : va_E} (h : jag M M1) (hn : M1 q = none) : jag M (jv_up M1 q e) := h.tr fun b hb => jv_up_n (show b ≠ q from fun z => hb (by rw [z]; exact hn))
theorem jag.put {M M1 : jv_M} {q : Nat} {e : va_E} (h : jag M M1) (hn : M q = none) : jag M (jv_up M1 q e) := fun b hb => (jv_up_n (show b ≠ q from fun z => hb (by rw [z]; exact hn))).trans (h b hb)
theorem jag.c {M M1 : jv_M} (h : jag M M1) {b : Nat} {e : va_E} (hb : M b = some e) : M1 b = some e := (h b (by rw [hb]; exact nofun)).trans hb
theorem jag.none {M M1 : jv_M} (h : jag M M1) {q : Nat} (hq : M1 q = none) : M q = none := by
  cases hm : M q with
  | none => rfl
  | some e => rw [h.c hm] at hq; cases hq
theorem jag.few {M M' : jv_M} (h : jag M M') : ∀ a e, M a = some e → M' a = some e := fun a e ha => h.c ha
/-- a version lies there -/
def jver (M : jv_M) (a c : Nat) : Prop := M a = some (.inr (4, [.int (nI (c / 100)), .int (nI (c / 10 % 10)), .int (nI (c % 10))]))
theorem jv_up_up {M : jv_M} {a : Nat} {e e' : va_E} : jv_up (jv_up M a e) a e' = jv_up M a e' := by
  funext b
  by_cases h : b = a
  · rw [h, jv_up_s, jv_up_s]
  · rw [jv_up_n h, jv_up_n h, jv_up_n h]
theorem jver.sub {M M' : jv_M} {a c : Nat} (h : jver M a c) (hM : jag M M') : jver M' a c := hM.c h
theorem v_order_inj {c d : Nat} : v_order c = v_order d ↔ c = d := by
  constructor
  · intro h
    unfold v_order at h
    split at h <;> split at h <;> omega
  · intro h; rw [h]
theorem line_iff {c d : Nat} : (c / 100 = d / 100 ∧ c / 10 % 10 = d / 10 % 10) ↔ c / 10 = d / 10 := by omega
theorem jv_up_mid {M : jv_M} {a e : Nat} {x y z : va_E} (h : a ≠ e) : jv_up (jv_up (jv_up M a x) e y) a z = jv_up (jv_up M e y) a z := by
  funext b
  by_cases h1 : b = a
  · rw [h1, jv_up_s, jv_up_s]
  · rw [jv_up_n h1, jv_up_n h1]
    by_cases h2 : b = e
    · rw [h2, jv_up_s, jv_up_s]
    · rw [jv_up_n h2, jv_up_n h2, jv_up_n h1]
section SF
variable {x : jv_X} {G : jv_G} {y : MethodName} {cc : ByteArray} {nL fr mc ms lo : Nat} {ret : Option FieldType} {Q : State → Prop} {M : jv_M} {k n pc : Nat} {lv : List (Nat × Value)} {st : List Value}
theorem jv_getS {C : String} {T : u_T} {N ci index : Nat} {ref : String} {a : Nat} {fs : List Value} {v : Value} (X : jv_C x G y cc nL ret fr mc ms lo) (d : decode cc pc = .ok (.getfield index, 3)) (hm : M a = some (.inr (ci, fs))) (hc : jv_cl[ci]? = some (C, T, N)) (hin : ∀ w ∈ u_ws C T N, w ∈ lw_all) (i : Nat) (hi : i < N) (hlink : Cond.fieldLink y.cls index ref (T i).2.1 (T i).2.2.1 ∈ lw_all) (hsame : Cond.sameField ref (T i).1 (T i).2.1 (T i).2.2.1 ∈ lw_all) (hv : fs[i]? = some v)
    (kk : jv_J x G nL Q M k n (pc + 3) lv (v :: st)) : jv_J x G nL Q M k n pc lv (.ref a :: st) := fun H locs ls hP hS hl =>
  va_get X.exec X.code X.hts hin X.own X.K (jv_one hP hm) 0 rfl hc i hi (X.hts _ hlink) (fun z hz => u_same (X.hts _ hsame) z hz) hv d (kk H locs ls hP hS hl)
theorem jv_putS {C : String} {T : u_T} {N ci index : Nat} {ref : String} {a : Nat} {fs fs' : List Value} {v : Value} {ty : FieldType} (X : jv_C x G y cc nL ret fr mc ms lo) (d : decode cc pc = .ok (.putfield index, 3)) (hm : M a = some (.inr (ci, fs))) (hfr : G.1 ≤ a) (hc : jv_cl[ci]? = some (C, T, N)) (hin : ∀ w ∈ u_ws C T N, w ∈ lw_all) (ty0 : Nat → FieldType) (hty : ∀ k, k < N → parseFieldDescriptor (T k).2.2.1 = some (ty0 k)) (hnm : ∀ a, a < N → ∀ b, b < N → a ≠ b → (T a).2.1 ≠ (T b).2.1)
    (i : Nat) (hi : i < N) (hlink : Cond.fieldLink y.cls index ref (T i).2.1 (T i).2.2.1 ∈ lw_all) (hsame : Cond.sameField ref (T i).1 (T i).2.1 (T i).2.2.1 ∈ lw_all) (hfin : (T i).2.2.2 = false) (hd : ty0 i = ty) (hn : narrow ty v = v) (hfit : fits ty v = true) (hl : i < fs.length) (hs : fs.set i v = fs')
    (kk : jv_J x G nL Q (jv_up M a (.inr (ci, fs'))) k n (pc + 3) lv st) : jv_J x G nL Q M k n pc lv (v :: .ref a :: st) := fun H locs ls hP hS hls =>
  jv_write hP hS hm hfr [] (fun q h => by cases h) (fun ws A k0 h1 h2 h3 h4 _ g => va_put X.exec X.code X.hts hin ty0 hty hnm X.own X.K h1 h2 h3 k0 h4 hc i hi (X.hts _ hlink) (fun z hz => u_same (X.hts _ hsame) z hz) hfin (by rw [hty i hi, hd]) hn hfit hl d (by rw [hs]; exact g)) (fun H1 l1 a1 a2 => kk H1 l1 ls a1 a2 hls)
end SF
theorem up_none {M : jv_M} {a q : Nat} {e : va_E} (h : jv_up M a e q = none) : M q = none ∧ a ≠ q := by
  by_cases z : q = a
  · rw [z, jv_up_s] at h; cases h
  · rw [jv_up_n z] at h; exact ⟨h, fun w => z w.symm⟩
theorem lw_F {own : String} {idx : Nat} {C : String} {x y : MethodName} {b : ByteArray} {L : Nat} {r : Option FieldType} (h1 : Cond.methodLink own idx x ∈ lw_all) (h2 : Cond.selects C x y ∈ lw_all) (h3 : Cond.instanceMethod y ∈ lw_all) (h4 : Cond.initialized y.cls ∈ lw_all) (h5 : Cond.code y b L r ∈ lw_all) : GoodIn lw_all (va_wsF own idx C x y (ws_ y b L r)) := by
  refine lw_app ?_ (lw_meth h5)
  intro w hw
  simp only [List.mem_cons, List.not_mem_nil, or_false] at hw
  rcases hw with e | e | e | e
  · rw [e]; exact h1
  · rw [e]; exact h2
  · rw [e]; exact h3
  · rw [e]; exact h4
section JF
variable {x : jv_X} {G : jv_G} {y : MethodName} {cc : ByteArray} {nL fr mc ms lo : Nat} {ret : Option FieldType} {Q : State → Prop} {M : jv_M} {k n pc : Nat} {lv : List (Nat × Value)} {st : List Value}
variable {z : MethodName} {bytes : ByteArray} {maxL index fr' mc' ms' lo' : Nat} {zr : Option FieldType} {As rest : List Value} {Qc : Array Value → State → Outcome → State → Prop}
theorem jv_runF {xm : MethodName} {count ci b : Nat} {fs : List Value} {T : u_T} {N : Nat} (X : jv_C x G y cc nL ret fr mc ms lo) (d : decode cc pc = .ok (.invokeinterface index count, 5)) (hF : va_Fw z.cls xm z (jv_s x)) (hC : jv_Ct G (jv_l x) z bytes maxL zr fr' mc' ms' lo' (.ref b :: As) M Qc) (hT : GoodIn lw_all (va_wsF y.cls index z.cls xm z (ws_ z bytes maxL zr))) (hd : jv_dd xm As.length) (hm : M b = some (.inr (ci, fs))) (hc : jv_cl[ci]? = some (z.cls, T, N)) (hfr : fr' + 1 ≤ fr) (hlo : 8 + (maxL + 11) + lo' ≤ lo) (hk : k + mc' ≤ mc) (hn : n + ms' ≤ ms) (hst : st = As.reverse ++ .ref b :: rest) (hrm : (rest.map fun v => v.category).sum ≤ 8) :
    jv_Run5 x G nL M k n mc' ms' pc lv st rest (Qc (Value.ref b :: As).toArray) := fun H locs ls hP hS hl =>
  va_runF (C := z.cls) ((X.K.1 ci _ hc).2) ⟨X.exec, X.code, X.2.2.1, X.own, X.hts⟩ hC (va_cwF As.length X.hts hT rfl rfl rfl hF hd (by rw [X.room]; exact ⟨hfr, hlo⟩)) ⟨(jv_pre X hP hS).1, va_recv X.K (jv_one hP hm) (q0 := 0) hc rfl, (jv_pre X hP hS).2⟩ rfl rfl hl.1 hst (lv_room hrm) d (by rw [X.room]; exact ⟨hk, hn⟩)
theorem jv_callFi {post : Int32 → jv_M → Prop} {a : Array Value} (hr : jv_Run5 x G nL M k n mc' ms' pc lv st rest (jv_qi G post a)) (kk : ∀ (r : Int32) (M' : jv_M), post r M' → jv_J x G nL Q M' (k + mc') (n + ms') (pc + 5) lv (.int r :: rest)) : jv_J x G nL Q M k n pc lv st := fun H locs ls hP hS hl =>
  va_callFi (hr H locs ls hP hS hl) hS (fun _ _ h => h) (fun _ h => h) (fun r u t H1 l1 ht _ hp hb _ _ hS1 => kk r u hp H1 l1 ls (by rw [← ht]; exact hb) hS1 hl)
theorem jv_callFr {post : Nat → jv_M → Prop} {a : Array Value} (hr : jv_Run5 x G nL M k n mc' ms' pc lv st rest (jv_qr G post a)) (kk : ∀ (r : Nat) (M' : jv_M), post r M' → jv_J x G nL Q M' (k + mc') (n + ms') (pc + 5) lv (.ref r :: rest)) : jv_J x G nL Q M k n pc lv st := fun H locs ls hP hS hl =>
  va_callFr (hr H locs ls hP hS hl) hS (fun _ _ h => h) (fun _ h => h) (fun u r t H1 l1 ht _ _ hb _ _ hS1 => kk r u hb.2 H1 l1 ls (by rw [← ht]; exact hb.1) hS1 hl)
theorem jv_askF {e : Int32} {a : Array Value} (hr : jv_Run5 x G nL M k n mc' ms' pc lv st rest (jv_qi G (jv_pi e M) a)) (kk : jv_J x G nL Q M (k + mc') (n + ms') (pc + 5) lv (.int e :: rest)) : jv_J x G nL Q M k n pc lv st :=
  jv_callFi hr (fun r M' h => by obtain ⟨rfl, rfl⟩ := h; exact kk)
theorem hd_jx_hasNext : jv_dd jx_hasNext 0 := by unfold jv_dd; decide +kernel
theorem hd_jx_next : jv_dd jx_next 0 := by unfold jv_dd; decide +kernel
theorem hd_jx_length : jv_dd jx_length 0 := by unfold jv_dd; decide +kernel
theorem hd_jx_charAt : jv_dd jx_charAt 1 := by unfold jv_dd; decide +kernel
theorem hd_jx_toArray : jv_dd jx_toArray 0 := by unfold jv_dd; decide +kernel
end JF
