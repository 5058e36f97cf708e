/-! THE FRAME OF MY WALKS: one memory for all cells (an address to what lies there), one judgement jv_J that hides the heap, one contract jv_Ct -/
set_option maxRecDepth 100000
abbrev jv_cl : List vw_C := [(RX0, TX0, 7), (RX1, TX1, 3), (RX2, TX2, 27), (RX3, TX3, 2), (RX4, TX4, 3), (RX6, TX6, 4), (RX8, TX8, 4), (RX9, TX9, 4), (RX10, TX10, 5), (RX11, TX11, 4), (RX12, TX12, 2), (RX13, TX13, 5), (RX15, TX15, 6), (RX16, TX16, 5), (RX17, TX17, 6), (RX18, TX18, 7), (RX19, TX19, 2), (RX20, TX20, 7), (RX21, TX21, 5), (RX22, TX22, 7), (RJ2, TJ2, 3), (RJ4, TJ4, 4), (RJ5, TJ5, 4), (RJ7, TJ7, 3), (RJ8, TJ8, 4)]
/-- an address to its cell -/
abbrev jv_M : Type := Nat → Option va_E
/-- base address of all that the law makes; classes' numbers and slots; array classes; what more is known of a state -/
abbrev jv_G : Type := Nat × va_G × (Nat → ClassId) × (State → Prop)
abbrev jv_X : Type := Program × Launch × Env × Room × State × MethodId × Array Value × List Frame × Method × Code
abbrev jv_p (x : jv_X) : Program := x.1
abbrev jv_l (x : jv_X) : Launch := x.2.1
abbrev jv_e (x : jv_X) : Env := x.2.2.1
abbrev jv_R (x : jv_X) : Room := x.2.2.2.1
abbrev jv_s (x : jv_X) : State := x.2.2.2.2.1
abbrev jv_m (x : jv_X) : MethodId := x.2.2.2.2.2.1
abbrev jv_a (x : jv_X) : Array Value := x.2.2.2.2.2.2.1
abbrev jv_b (x : jv_X) : List Frame := x.2.2.2.2.2.2.2.1
abbrev jv_h (x : jv_X) : Method := x.2.2.2.2.2.2.2.2.1
abbrev jv_c (x : jv_X) : Code := x.2.2.2.2.2.2.2.2.2
def jv_tys (dA : Nat → ClassId) : List (ClassId × FieldType) := [(dA 0, .int), (dA 1, .object "java/lang/Object"), (dA 2, .byte)]
/-- the cells that may change: all that are new since the law began -/
def jv_fr (G : jv_G) : Nat → Prop := fun q => G.1 ≤ q
/-- the heap holds the memory's cells -/
def jv_H (G : jv_G) (M : jv_M) (H : Heap) : Prop := ∀ a e, M a = some e → va_at G.2.1 jv_cl (a, e) H
/-- words of the tables that don't ride in the lists, but stay -/
def jv_nw : Cond → Bool
  | .fieldLinkNest .. => true
  | .methodLinkNest .. => true
  | .castable .. => true
  | .declares .. => true
  | .privateMethod .. => true
  | _ => false
theorem jv_nw_on {w : Cond} (h : jv_nw w = true) : w.onTables = true := by
  cases w <;> first | rfl | (simp [jv_nw] at h)
theorem jv_nw_priv {z : MethodName} {s U : State} (hW : s.WarmedH U.vm) (hZ : va_Nw (.privateMethod z) s) : va_Nw (.privateMethod z) U := va_tabs rfl (rfl : (s.setVm U.vm).vm = U.vm) (by rw [Cond.privateMethod_setVm hW.alike]; exact hZ)
theorem jv_nw_warm {w : Cond} (h : jv_nw w = true) {s U : State} (hW : s.WarmedH U.vm) (hZ : va_Nw w s) : va_Nw w U := by
  cases w <;> first | (simp [jv_nw] at h; done) | exact va_Nw.warmF hW hZ | exact va_Nw.warmM hW hZ | exact va_Nw.warmC hW hZ | exact va_Nw.warmD hW hZ | exact jv_nw_priv hW hZ
/-- what is known of a method's state at its start, all through -/
def jv_E (G : jv_G) (U : State) : Prop := G.1 ≤ U.heap.size ∧ va_K G.2.1 jv_cl (jv_tys G.2.2.1) U ∧ (∀ w ∈ lw_tbl, jv_nw w = true → va_Nw w U) ∧ G.2.2.2 U ∧
  (∀ s T : State, G.1 ≤ s.heap.size → s.WarmedH T.vm → s.heap.size ≤ T.heap.size → (∀ q : Nat, q < G.1 → T.heap[q]? = s.heap[q]?) → G.2.2.2 s → G.2.2.2 T)
theorem jv_E.moved {G : jv_G} {s U : State} {H : Heap} {locs : List Loc} (h : jv_E G s) (hU : U.heap = H) (hW : s.WarmedH U.vm) (hS : va_S (jv_fr G) s.heap H locs) : jv_E G U := by
  obtain ⟨h1, h2, h3, h4, h5⟩ := h
  refine ⟨by rw [hU]; exact Nat.le_trans h1 hS.1, va_K.moved hW.alike h2, fun w hw hn => jv_nw_warm hn hW (h3 w hw hn), ?_, h5⟩
  exact h5 s U h1 hW (by rw [hU]; exact hS.1) (fun q hq => by rw [hU]; exact hS.2.1 q (Nat.lt_of_lt_of_le hq h1) (fun z => Nat.not_le.mpr hq z)) h4
theorem jv_E.blind {G : jv_G} {U : State} {g : JFrame} {mk : MethodId} {a : Array Value} (h : jv_E G U) : jv_E G (U.calling g mk a) := by
  obtain ⟨h1, h2, h3, h4, h5⟩ := h
  have hW : U.WarmedH (U.calling g mk a).vm := State.WarmedH.refl U
  exact ⟨h1, va_K.moved (U := U.calling g mk a) (Vm.Alike.refl U.vm) h2, fun w hw hn => jv_nw_warm hn hW (h3 w hw hn), h5 U _ h1 hW (Nat.le_refl _) (fun _ _ => rfl) h4, h5⟩
/-- what a method's walk stands on -/
def jv_C (x : jv_X) (G : jv_G) (y : MethodName) (cc : ByteArray) (nL : Nat) (ret : Option FieldType) (fr mc ms lo : Nat) : Prop :=
  (jv_p x).tables.exec = Jvm.exec ∧ (jv_c x).code = cc ∧ (jv_c x).maxLocals = nL ∧ (jv_s x).vm.findClass y.cls = some (jv_m x).cls ∧ (∀ w ∈ lw_all, w.before (jv_a x) (jv_s x) = true) ∧ jv_E G (jv_s x) ∧
  jv_R x = ({ frames := fr, cells := mc, slots := ms, locals := lo } : Room) ∧ (jv_h x).locks = false ∧ (jv_h x).sig.returnType = ret ∧ (jv_h x).name = y.name
/-- from here the machine comes to Q -/
def jv_J (x : jv_X) (G : jv_G) (nL : Nat) (Q : State → Prop) (M : jv_M) (k n pc : Nat) (lv : List (Nat × Value)) (st : List Value) : Prop :=
  ∀ (H : Heap) (locs : List Loc) (ls : Array Slot), jv_H G M H → va_S (jv_fr G) (jv_s x).heap H locs → lv_has ls nL lv →
    W (jv_p x) (jv_l x) (jv_e x) (jv_R x) (jv_s x) (jv_m x) (jv_a x) (jv_b x) (jv_h x) (jv_c x) H locs k n Q (F0 (jv_m x) pc ls st)
/-- a method's contract: from memory M and arguments as -/
def jv_Ct (G : jv_G) (l : Launch) (y : MethodName) (cc : ByteArray) (nL : Nat) (ret : Option FieldType) (fr mc ms lo : Nat) (as : List Value) (M : jv_M) (Qc : Array Value → State → Outcome → State → Prop) : Prop :=
  Met l y (ws_ y cc nL ret) ({ frames := fr, cells := mc, slots := ms, locals := lo } : Room) (va_Pc as (fun U => jv_E G U ∧ jv_H G M U.heap)) Qc mc ms (jv_fr G)
def jv_B (G : jv_G) : jv_M → State → Prop := fun M t => jv_H G M t.heap
def jv_qi (G : jv_G) (post : Int32 → jv_M → Prop) : Array Value → State → Outcome → State → Prop := va_Qi post (jv_B G) (jv_fr G)
def jv_ql (G : jv_G) (post : Int64 → jv_M → Prop) : Array Value → State → Outcome → State → Prop := va_Ql post (jv_B G) (jv_fr G)
def jv_qd (G : jv_G) (post : UInt64 → jv_M → Prop) : Array Value → State → Outcome → State → Prop := va_Qd post (jv_B G) (jv_fr G)
def jv_qv (G : jv_G) (post : jv_M → Prop) : Array Value → State → Outcome → State → Prop := va_Qv post (jv_B G) (jv_fr G)
def jv_qr (G : jv_G) (post : Nat → jv_M → Prop) : Array Value → State → Outcome → State → Prop := va_Qr (fun _ : jv_M => True) (fun M a t => jv_H G M t.heap ∧ post a M) (jv_fr G)
def jv_qq (G : jv_G) (post : Option Nat → jv_M → Prop) : Array Value → State → Outcome → State → Prop := va_Qq post (jv_B G) (jv_fr G)
/-- what a method's walk must come to -/
def jv_Q (x : jv_X) (G : jv_G) (Qc : Array Value → State → Outcome → State → Prop) (mc ms : Nat) : State → Prop := MQ (jv_b x) Qc (jv_a x) (jv_s x) mc ms (jv_fr G)
theorem jv_Ct.of {G : jv_G} {l : Launch} {y : MethodName} {cc : ByteArray} {nL : Nat} {ret : Option FieldType} {fr mc ms lo : Nat} {as : List Value} {M : jv_M} {Qc : Array Value → State → Outcome → State → Prop}
    (hy : plainName y.cls = true) (hn : (lg_sl as).length ≤ nL)
    {lv : List (Nat × Value)} (hlv : lv_args 0 as = lv) (body : ∀ (x : jv_X) (Q : State → Prop), jv_l x = l → Q = jv_Q x G Qc mc ms → jv_C x G y cc nL ret fr mc ms lo → jv_J x G nL Q M 0 0 0 lv []) :
    jv_Ct G l y cc nL ret fr mc ms lo as M Qc := by
  refine Met.ofW (cc := cc) (maxL := nL) (ret := ret) hy rfl ?_
  intro p e s m args below meth c s₁ B hml hv
  obtain ⟨rfl, hE, hP⟩ := hv
  have hts := atoms_spec (ws := ws_ y cc nL ret) B.pre
  have hts : ∀ w ∈ lw_all, w.before _ s = true := fun w h => hts w (List.mem_cons_of_mem _ h)
  have X : jv_C (p, l, e, _, s, m, as.toArray, below, meth, c) G y cc nL ret fr mc ms lo := ⟨B.exec, B.bytes, hml, findClass_of_methodNamed B.named, hts, hE, rfl, B.notSynchronized, B.returns, (name_of_methodNamed B.named B.method).1⟩
  have h := body (p, l, e, _, s, m, as.toArray, below, meth, c) _ rfl rfl X s.heap []
  rw [lg_entry_eq]
  exact h _ hP va_S.rf (hlv ▸ lv_entry as hn)
section JV
variable {x : jv_X} {G : jv_G} {y : MethodName} {cc : ByteArray} {nL fr mc ms lo : Nat} {ret : Option FieldType} {Q : State → Prop} {M : jv_M} {k n pc : Nat} {lv : List (Nat × Value)} {st : List Value}
theorem jv_C.exec (X : jv_C x G y cc nL ret fr mc ms lo) : (jv_p x).tables.exec = Jvm.exec := X.1
theorem jv_C.code (X : jv_C x G y cc nL ret fr mc ms lo) : (jv_c x).code = cc := X.2.1
theorem jv_C.own (X : jv_C x G y cc nL ret fr mc ms lo) : (jv_s x).vm.findClass y.cls = some (jv_m x).cls := X.2.2.2.1
theorem jv_C.hts (X : jv_C x G y cc nL ret fr mc ms lo) : ∀ w ∈ lw_all, w.before (jv_a x) (jv_s x) = true := X.2.2.2.2.1
theorem jv_C.env (X : jv_C x G y cc nL ret fr mc ms lo) : jv_E G (jv_s x) := X.2.2.2.2.2.1
theorem jv_C.room (X : jv_C x G y cc nL ret fr mc ms lo) : jv_R x = ({ frames := fr, cells := mc, slots := ms, locals := lo } : Room) := X.2.2.2.2.2.2.1
theorem jv_C.locks (X : jv_C x G y cc nL ret fr mc ms lo) : (jv_h x).locks = false := X.2.2.2.2.2.2.2.1
theorem jv_C.rett (X : jv_C x G y cc nL ret fr mc ms lo) : (jv_h x).sig.returnType = ret := X.2.2.2.2.2.2.2.2.1
theorem jv_C.name (X : jv_C x G y cc nL ret fr mc ms lo) : (jv_h x).name = y.name := X.2.2.2.2.2.2.2.2.2
theorem jv_C.K (X : jv_C x G y cc nL ret fr mc ms lo) : va_K G.2.1 jv_cl (jv_tys G.2.2.1) (jv_s x) := X.env.2.1
theorem jv_C.nw (X : jv_C x G y cc nL ret fr mc ms lo) {w : Cond} (hw : w ∈ lw_tbl) (hn : jv_nw w = true) : va_Nw w (jv_s x) := X.env.2.2.1 w hw hn
theorem jv_C.more (X : jv_C x G y cc nL ret fr mc ms lo) : G.2.2.2 (jv_s x) := X.env.2.2.2.1
theorem jv_C.new (X : jv_C x G y cc nL ret fr mc ms lo) : ∀ q : Nat, (jv_s x).heap.size ≤ q → jv_fr G q := fun _ h => Nat.le_trans X.env.1 h
theorem jv_fewer {M M' : jv_M} (h : ∀ a e, M' a = some e → M a = some e) (kk : jv_J x G nL Q M' k n pc lv st) : jv_J x G nL Q M k n pc lv st := fun H locs ls hP hS hl => kk H locs ls (fun a e q => hP a e (h a e q)) hS hl
theorem jv_lv {lv' : List (Nat × Value)} (ks : List Nat) (h : lv_pick lv ks = lv') (kk : jv_J x G nL Q M k n pc lv' st) : jv_J x G nL Q M k n pc lv st := fun H locs ls hP hS hl => kk H locs ls hP hS (lv_sub hl ks h)
theorem jv_widen {k' n' : Nat} (h1 : k ≤ k') (h2 : n ≤ n') (kk : jv_J x G nL Q M k' n' pc lv st) : jv_J x G nL Q M k n pc lv st := fun H locs ls hP hS hl => W.widen h1 h2 (kk H locs ls hP hS hl)
theorem jv_one {M : jv_M} {H : Heap} {a : Nat} {e : va_E} (hP : jv_H G M H) (h : M a = some e) : va_P G.2.1 jv_cl [(a, e)] H := by
  intro i q hi
  have hz : i < 1 := (List.getElem?_eq_some_iff.mp hi).1
  rw [show i = 0 by omega] at hi
  cases hi
  exact hP a e h
/-- a memory with one place changed -/
def jv_up (M : jv_M) (a : Nat) (e : va_E) : jv_M := fun q => if q = a then some e else M q
theorem jv_up_s {M : jv_M} {a : Nat} {e : va_E} : jv_up M a e a = some e := if_pos rfl
theorem jv_up_n {M : jv_M} {a b : Nat} {e : va_E} (h : b ≠ a) : jv_up M a e b = M b := if_neg h
theorem jv_H.set {M : jv_M} {H H1 : Heap} {a : Nat} {e : va_E} (hP : jv_H G M H) (he : va_at G.2.1 jv_cl (a, e) H1) (oq : ∀ q : Nat, q ≠ a → H1[q]? = H[q]?) : jv_H G (jv_up M a e) H1 := by
  intro b e' hb
  by_cases hq : b = a
  · subst hq
    rw [jv_up_s] at hb
    cases hb
    exact he
  · rw [jv_up_n hq] at hb
    exact (hP b e' hb).kept (oq b hq)
theorem jv_H.push {M : jv_M} {H H1 : Heap} {a : Nat} {e : va_E} (hP : jv_H G M H) (ha : a = H.size) (he : va_at G.2.1 jv_cl (a, e) H1) (oq : ∀ q : Nat, q < H.size → H1[q]? = H[q]?) : jv_H G (jv_up M a e) H1 ∧ M a = none := by
  have hn : M a = none := by
    cases h : M a with
    | none => rfl
    | some e' => exact absurd ((hP a e' h).lt) (by show ¬ a < H.size; omega)
  refine ⟨fun b e' hb => ?_, hn⟩
  by_cases hq : b = a
  · subst hq
    rw [jv_up_s] at hb
    cases hb
    exact he
  · rw [jv_up_n hq] at hb
    exact (hP b e' hb).kept (oq b ((hP b e' hb).lt))
theorem jv_get {C : String} {T : u_T} {N ci index : Nat} {ref : String} {a : Nat} {fs : List Value} {v : Value} (X : jv_C x G y cc nL ret fr mc ms lo) (d : decode cc pc = .ok (.getfield index, 3)) (hm : M a = some (.inr (ci, fs))) (hc : jv_cl[ci]? = some (C, T, N)) (hin : ∀ w ∈ u_ws C T N, w ∈ lw_all) (i : Nat) (hi : i < N) (hlink : Cond.fieldLink y.cls index ref (T i).2.1 (T i).2.2.1 ∈ lw_all) (hsame : (T i).1 = ref) (hv : fs[i]? = some v)
    (kk : jv_J x G nL Q M k n (pc + 3) lv (v :: st)) : jv_J x G nL Q M k n pc lv (.ref a :: st) := fun H locs ls hP hS hl =>
  va_get X.exec X.code X.hts hin X.own X.K (jv_one hP hm) 0 rfl hc i hi (X.hts _ hlink) (fun z hz => by rw [← hsame]; exact hz) hv d (kk H locs ls hP hS hl)
theorem jv_getN {C : String} {T : u_T} {N ci index : Nat} {ref host : String} {a : Nat} {fs : List Value} {v : Value} (X : jv_C x G y cc nL ret fr mc ms lo) (d : decode cc pc = .ok (.getfield index, 3)) (hm : M a = some (.inr (ci, fs))) (hc : jv_cl[ci]? = some (C, T, N)) (hin : ∀ w ∈ u_ws C T N, w ∈ lw_all) (i : Nat) (hi : i < N) (hlink : Cond.fieldLinkNest y.cls index ref (T i).2.1 (T i).2.2.1 host ∈ lw_tbl) (hsame : (T i).1 = ref) (hv : fs[i]? = some v)
    (kk : jv_J x G nL Q M k n (pc + 3) lv (v :: st)) : jv_J x G nL Q M k n pc lv (.ref a :: st) := fun H locs ls hP hS hl =>
  va_getN X.exec X.code X.hts hin X.own X.K (jv_one hP hm) 0 rfl hc i hi (va_Nw.use rfl (X.nw hlink rfl)) (fun z hz => by rw [← hsame]; exact hz) hv d (kk H locs ls hP hS hl)
end JV
