/-! what lay there before the law began: String constants, statics, tables; rows that read them -/
set_option maxRecDepth 100000
/-- addresses: of String constants, of their arrays, of statics and tables -/
abbrev jk_A : Type := (Nat → Nat) × (Nat → Nat) × (Nat → Nat)
def jk_len : List Nat := [0, 4, 2, 6, 4, 5, 6]
def jk_byt : List (List Int32) := [[], [32, 98, 121, 32], [58, 32], [32, 108, 111, 115, 101, 115], [110, 111, 110, 101], [32, 110, 111, 110, 101], [42, 61, 60, 43, 94, 126]]
/-- a constant's i-th byte -/
def jk_b (i j : Nat) : Int32 := (jk_byt.getD i []).getD j 0
abbrev jk_n (i : Nat) : Nat := jk_len.getD i 0
def jk_Rs (k : Nat → Nat) (U : State) : Prop := vk_R "VersionSolver" 25 "" (k 0) U ∧ vk_R "VersionSolver" 419 "none" (k 4) U ∧ vk_R "VersionSolver" 428 " by " (k 1) U ∧ vk_R "VersionSolver" 433 ": " (k 2) U ∧ vk_R "VersionSolver" 435 " loses" (k 3) U ∧
  vk_R "VersionSolverModel" 263 " by " (k 1) U ∧ vk_R "VersionSolverModel" 269 ": " (k 2) U ∧ vk_R "VersionSolverModel" 271 " loses" (k 3) U ∧ vk_R "VersionSolverModel" 273 " none" (k 5) U ∧ vk_R "VersionSolver$Reader" 41 "*=<+^~" (k 6) U
def jk_dig (t : Bool) (j : Nat) : Nat := 48 + (if t = true then j / 10 else j % 10)
def jk_St (A : Nat → Prop) (z : Nat → Nat) (U : State) (H : Heap) : Prop :=
  (va_Z "VersionSolver" "TENS" "[I" (.ref (z 0)) A U H ∧ va_T .int (z 0) 7 (fun j => .int (nI (10 ^ j))) A U H) ∧
  (va_Z "java/util/ArrayList" "EMPTY_ELEMENTDATA" "[Ljava/lang/Object;" (.ref (z 1)) A U H ∧ va_T (.object "java/lang/Object") (z 1) 0 (fun _ => .null) A U H) ∧
  (va_Z "java/util/ArrayList" "DEFAULTCAPACITY_EMPTY_ELEMENTDATA" "[Ljava/lang/Object;" (.ref (z 2)) A U H ∧ va_T (.object "java/lang/Object") (z 2) 0 (fun _ => .null) A U H) ∧ z 1 ≠ z 2 ∧
  (va_Z "java/lang/Integer" "DigitTens" "[B" (.ref (z 3)) A U H ∧ va_T .byte (z 3) 100 (fun j => .int (nI (jk_dig true j))) A U H) ∧
  (va_Z "java/lang/Integer" "DigitOnes" "[B" (.ref (z 4)) A U H ∧ va_T .byte (z 4) 100 (fun j => .int (nI (jk_dig false j))) A U H) ∧
  va_Z "java/lang/String" "COMPACT_STRINGS" "Z" (.int 1) A U H ∧ va_Zq "java/lang/Throwable" "SUPPRESSED_SENTINEL" "Ljava/util/List;" A U H ∧ va_Zq "java/lang/Throwable" "UNASSIGNED_STACK" "[Ljava/lang/StackTraceElement;" A U H ∧ va_Zq "jdk/internal/util/Preconditions" "SIOOBE_FORMATTER" "Ljava/util/function/BiFunction;" A U H
def jx_hasNext : MethodName := ⟨"java/util/Iterator", "hasNext", "()Z"⟩
def jx_next : MethodName := ⟨"java/util/Iterator", "next", "()Ljava/lang/Object;"⟩
def jx_length : MethodName := ⟨"java/lang/CharSequence", "length", "()I"⟩
def jx_charAt : MethodName := ⟨"java/lang/CharSequence", "charAt", "(I)C"⟩
def jx_toArray : MethodName := ⟨"java/util/Collection", "toArray", "()[Ljava/lang/Object;"⟩
/-- calls through interfaces -/
def jk_Fs (U : State) : Prop := va_Fw "java/util/ArrayList$Itr" jx_hasNext yJ8_hasNext U ∧ va_Fw "java/util/ArrayList$Itr" jx_next yJ8_next U ∧ va_Fw "java/lang/StringBuilder" jx_length yJ4_length U ∧ va_Fw "java/lang/StringBuilder" jx_charAt yJ4_charAt U ∧ va_Fw "java/util/ArrayList" jx_toArray yJ2_toArray U
def jk_F (B : Nat) (σ : jk_A) (U : State) : Prop := vk_S 7 jk_len jk_byt σ.1 σ.2.1 (fun q => B ≤ q) U U.heap ∧ jk_Rs σ.1 U ∧ jk_St (fun q => B ≤ q) σ.2.2 U U.heap ∧ va_Mi "[Ljava/lang/Object;" (σ.2.2 5) U ∧ va_AO "java/lang/Object" U ∧ jk_Fs U
/-- a frame whose extra facts hold them -/
def jk_G (G : jv_G) (σ : jk_A) : Prop := ∀ U, G.2.2.2 U → jk_F G.1 σ U
section JK
variable {x : jv_X} {G : jv_G} {y : MethodName} {cc : ByteArray} {nL fr mc ms lo : Nat} {ret : Option FieldType} {Q : State → Prop} {M : jv_M} {k n pc : Nat} {lv : List (Nat × Value)} {st : List Value} {σ : jk_A}
theorem jk_G.f (hG : jk_G G σ) (X : jv_C x G y cc nL ret fr mc ms lo) : jk_F G.1 σ (jv_s x) := hG _ X.more
theorem jv_ldcSt {tx : String} {index q : Nat} (X : jv_C x G y cc nL ret fr mc ms lo) (d : decode cc pc = .ok (.ldc index, 2)) (hR : vk_R y.cls index tx q (jv_s x))
    (kk : jv_J x G nL Q M k n (pc + 2) lv (.ref q :: st)) : jv_J x G nL Q M k n pc lv st := fun H locs ls hP hS hl => va_ldcS X.exec X.code X.own hR d (kk H locs ls hP hS hl)
theorem jv_ldcStW {tx : String} {index q : Nat} (X : jv_C x G y cc nL ret fr mc ms lo) (d : decode cc pc = .ok (.ldc_w index, 3)) (hR : vk_R y.cls index tx q (jv_s x))
    (kk : jv_J x G nL Q M k n (pc + 3) lv (.ref q :: st)) : jv_J x G nL Q M k n pc lv st := fun H locs ls hP hS hl => by
  intro T hT X'
  obtain ⟨t, a1, b1⟩ := kk H locs ls hP hS hl T hT X'
  exact ⟨t, X'.ldcStringW X.exec X.own (text := tx) (a := q) hR.1 hR.2 (g := F0 (jv_m x) pc ls st) rfl (by rw [X.code]; exact d) t a1, b1⟩
/-- a field of a String constant -/
theorem jv_getK {o nm ds : String} {q index : Nat} {v : Value} (X : jv_C x G y cc nL ret fr mc ms lo) (d : decode cc pc = .ok (.getfield index, 3)) (hE : va_OF o nm ds v q (jv_fr G) (jv_s x) (jv_s x).heap) (hlink : Cond.fieldLink y.cls index o nm ds ∈ lw_all)
    (kk : jv_J x G nL Q M k n (pc + 3) lv (v :: st)) : jv_J x G nL Q M k n pc lv (.ref q :: st) := fun H locs ls hP hS hl => vk_getf X.exec X.code hE hS X.own (X.hts _ hlink) (fun _ h => h) d (kk H locs ls hP hS hl)
theorem jv_baldK {t N : Nat} {f : Nat → Value} {i : Int32} {v : Value} (X : jv_C x G y cc nL ret fr mc ms lo) (d : decode cc pc = .ok (.baload, 1)) (hT : va_T .byte t N f (jv_fr G) (jv_s x) (jv_s x).heap) (hin : vp_in i N) (hv : f i.toNatClampNeg = v)
    (kk : jv_J x G nL Q M k n (pc + 1) lv (v :: st)) : jv_J x G nL Q M k n pc lv (.int i :: .ref t :: st) := fun H locs ls hP hS hl => va_tb X.exec X.code hT hS hin hv d (kk H locs ls hP hS hl)
theorem jv_ialdK {t N : Nat} {f : Nat → Value} {i : Int32} {v : Value} (X : jv_C x G y cc nL ret fr mc ms lo) (d : decode cc pc = .ok (.iaload, 1)) (hT : va_T .int t N f (jv_fr G) (jv_s x) (jv_s x).heap) (hin : vp_in i N) (hv : f i.toNatClampNeg = v)
    (kk : jv_J x G nL Q M k n (pc + 1) lv (v :: st)) : jv_J x G nL Q M k n pc lv (.int i :: .ref t :: st) := fun H locs ls hP hS hl => va_ti X.exec X.code hT hS hin hv d (kk H locs ls hP hS hl)
theorem jv_alenK {t N : Nat} {ty : FieldType} {f : Nat → Value} {v : Int32} (X : jv_C x G y cc nL ret fr mc ms lo) (d : decode cc pc = .ok (.arraylength, 1)) (hT : va_T ty t N f (jv_fr G) (jv_s x) (jv_s x).heap) (hv : nI N = v)
    (kk : jv_J x G nL Q M k n (pc + 1) lv (.int v :: st)) : jv_J x G nL Q M k n pc lv (.ref t :: st) := fun H locs ls hP hS hl => va_tlen X.exec X.code hT hS hv d (kk H locs ls hP hS hl)
theorem jv_gets {C nm ds : String} {v : Value} {index : Nat} (X : jv_C x G y cc nL ret fr mc ms lo) (d : decode cc pc = .ok (.getstatic index, 3)) (hZ : va_Z C nm ds v (jv_fr G) (jv_s x) (jv_s x).heap) (hlink : Cond.fieldLink y.cls index C nm ds ∈ lw_all)
    (kk : jv_J x G nL Q M k n (pc + 3) lv (v :: st)) : jv_J x G nL Q M k n pc lv st := fun H locs ls hP hS hl => va_gets X.exec X.code hZ hS X.own (X.hts _ hlink) (fun _ h => h) d (kk H locs ls hP hS hl)
theorem jv_getsN {C nm ds host : String} {v : Value} {index : Nat} (X : jv_C x G y cc nL ret fr mc ms lo) (d : decode cc pc = .ok (.getstatic index, 3)) (hZ : va_Z C nm ds v (jv_fr G) (jv_s x) (jv_s x).heap) (hlink : Cond.fieldLinkNest y.cls index C nm ds host ∈ lw_tbl)
    (kk : jv_J x G nL Q M k n (pc + 3) lv (v :: st)) : jv_J x G nL Q M k n pc lv st := fun H locs ls hP hS hl => va_getsN X.exec X.code hZ hS X.own (va_Nw.use rfl (X.nw hlink rfl)) (fun _ h => h) d (kk H locs ls hP hS hl)
variable {z : MethodName} {bytes : ByteArray} {maxL index fr' mc' ms' lo' : Nat} {zr : Option FieldType} {As rest : List Value} {Qc : Array Value → State → Outcome → State → Prop}
theorem jv_runVK {b i : Nat} (X : jv_C x G y cc nL ret fr mc ms lo) (d : decode cc pc = .ok (.invokevirtual index, 3)) (hG : jk_G G σ) (hi : i < 7) (hb : σ.1 i = b) (hz : z.cls = "java/lang/String") (hC : jv_Ct G (jv_l x) z bytes maxL zr fr' mc' ms' lo' (.ref b :: As) M Qc) (hT : GoodIn lw_all (wsV y.cls index z.cls z (ws_ z bytes maxL zr))) (hd : jv_dd z As.length) (hfr : fr' + 1 ≤ fr) (hlo : 8 + (maxL + 11) + lo' ≤ lo) (hk : k + mc' ≤ mc) (hn : n + ms' ≤ ms) (hst : st = As.reverse ++ .ref b :: rest) (hrm : (rest.map fun v => v.category).sum ≤ 8) :
    jv_Run x G nL M k n mc' ms' pc lv st rest (Qc (Value.ref b :: As).toArray) := fun H locs ls hP hS hl =>
  va_runV (C := z.cls) ⟨X.exec, X.code, X.2.2.1, X.own, X.hts⟩ hC (cwV As.length X.hts hT rfl rfl rfl ⟨rfl, hd⟩ (by rw [X.room]; exact ⟨hfr, hlo⟩)) ⟨(jv_pre X hP hS).1, by rw [hz, ← hb]; exact vk_recv (hG.f X).1 hi hS, (jv_pre X hP hS).2⟩ rfl rfl hl.1 hst (lv_room hrm) d (by rw [X.room]; exact ⟨hk, hn⟩)
end JK
