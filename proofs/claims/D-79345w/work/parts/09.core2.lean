/-! rows that write, make and call, over the one memory -/
set_option maxRecDepth 100000
/-- some cells of the memory as a list, each once -/
theorem jv_world {G : jv_G} {M : jv_M} {H : Heap} (hP : jv_H G M H) : ∀ (as : List Nat), ∃ ws : va_W, va_P G.2.1 jv_cl ws H ∧ va_D (fun q => q ∈ as) ws ∧ (∀ q e, q ∈ as → M q = some e → ∃ k : Nat, ws[k]? = some (q, e)) ∧ (∀ (k : Nat) (q : Nat × va_E), ws[k]? = some q → M q.1 = some q.2)
  | [] => ⟨[], fun k q h => by simp at h, ⟨fun i j p q h => by simp at h, fun k q h => by simp at h⟩, fun q e h => by simp at h, fun k q h => by simp at h⟩
  | a :: as => by
    obtain ⟨ws, h1, h2, h3, h4⟩ := jv_world hP as
    by_cases hin : ∃ e, (a, e) ∈ ws
    · obtain ⟨e, he⟩ := hin
      refine ⟨ws, h1, h2.weaken (fun k q _ h => List.mem_cons_of_mem _ h), fun q e' hq hm => ?_, h4⟩
      rcases List.mem_cons.mp hq with rfl | hq
      · obtain ⟨i, hi⟩ := List.getElem?_of_mem he
        have := h4 i _ hi
        rw [hm] at this
        cases this
        exact ⟨i, hi⟩
      · exact h3 q e' hq hm
    · cases hm : M a with
      | none =>
        refine ⟨ws, h1, h2.weaken (fun k q _ h => List.mem_cons_of_mem _ h), fun q e' hq hm' => ?_, h4⟩
        rcases List.mem_cons.mp hq with rfl | hq
        · rw [hm] at hm'; cases hm'
        · exact h3 q e' hq hm'
      | some e =>
        have hne : ∀ (k : Nat) (q : Nat × va_E), ws[k]? = some q → q.1 ≠ a := fun k q hk h => hin ⟨q.2, by rw [← h]; exact List.mem_of_getElem? hk⟩
        refine ⟨(a, e) :: ws, ?_, ⟨?_, ?_⟩, ?_, ?_⟩
        · intro k q hk
          cases k with
          | zero => cases hk; exact hP a e hm
          | succ k => exact h1 k q hk
        · intro i j p q hi hj hpq
          cases i with
          | zero =>
            cases j with
            | zero => rfl
            | succ j => cases hi; exact absurd hpq.symm (hne j q hj)
          | succ i =>
            cases j with
            | zero => cases hj; exact absurd hpq (hne i p hi)
            | succ j => exact congrArg (· + 1) (h2.1 i j p q hi hj hpq)
        · intro k q hk
          cases k with
          | zero => cases hk; exact List.mem_cons_self
          | succ k => exact List.mem_cons_of_mem _ (h2.2 k q hk)
        · intro q e' hq hm'
          rcases List.mem_cons.mp hq with rfl | hq
          · rw [hm] at hm'; cases hm'; exact ⟨0, rfl⟩
          · obtain ⟨k, hk⟩ := h3 q e' hq hm'
            exact ⟨k + 1, hk⟩
        · intro k q hk
          cases k with
          | zero => cases hk; exact hm
          | succ k => exact h4 k q hk
/-- a row that writes one cell of any world, read over the memory -/
theorem jv_write {G : jv_G} {M : jv_M} {H H0 : Heap} {locs : List Loc} {a : Nat} {e e' : va_E} {Wf : Heap → List Loc → Prop} {W0 : Prop} (hP : jv_H G M H) (hS : va_S (jv_fr G) H0 H locs) (ha : M a = some e) (hfr : G.1 ≤ a) (more : List Nat) (hmore : ∀ q ∈ more, G.1 ≤ q)
    (row : ∀ (ws : va_W) (A : Nat → Prop) (k0 : Nat), va_P G.2.1 jv_cl ws H → va_D A ws → va_S A H H locs → ws[k0]? = some (a, e) → (∀ q e1, q ∈ more → M q = some e1 → ∃ k : Nat, ws[k]? = some (q, e1)) →
      (∀ (H1 : Heap) (locs1 : List Loc), va_P G.2.1 jv_cl (ws.set k0 (a, e')) H1 → va_D A (ws.set k0 (a, e')) → va_S A H H1 locs1 → Wf H1 locs1) → W0)
    (kk : ∀ (H1 : Heap) (locs1 : List Loc), jv_H G (jv_up M a e') H1 → va_S (jv_fr G) H0 H1 locs1 → Wf H1 locs1) : W0 := by
  obtain ⟨ws, h1, h2, h3, h4⟩ := jv_world hP (a :: (more ++ locs.map (fun l => l.base)))
  obtain ⟨k0, hk0⟩ := h3 a e List.mem_cons_self ha
  have hl0 := (List.getElem?_eq_some_iff.mp hk0).1
  have hfrA : ∀ q : Nat, q ∈ a :: (more ++ locs.map (fun l => l.base)) → jv_fr G q := by
    intro q hq
    rcases List.mem_cons.mp hq with rfl | hq
    · exact hfr
    · rcases List.mem_append.mp hq with hq | hq
      · exact hmore q hq
      · obtain ⟨l, hl, rfl⟩ := List.mem_map.mp hq
        exact hS.2.2 l hl
  refine row ws (fun q => q ∈ a :: (more ++ locs.map (fun l => l.base))) k0 h1 h2 ⟨Nat.le_refl _, fun _ _ _ => rfl, fun l hl => List.mem_cons_of_mem _ (List.mem_append_right _ (List.mem_map_of_mem hl))⟩ hk0 (fun q e1 hq hm => h3 q e1 (List.mem_cons_of_mem _ (List.mem_append_left _ hq)) hm) fun H1 locs1 g1 g2 g3 => kk H1 locs1 ?_ ?_
  · intro b eb hb
    by_cases hba : b = a
    · subst hba
      rw [jv_up_s] at hb
      cases hb
      exact g1 k0 _ (List.getElem?_set_self hl0)
    · rw [jv_up_n hba] at hb
      by_cases hin : b ∈ a :: (more ++ locs.map (fun l => l.base))
      · obtain ⟨k, hk⟩ := h3 b eb hin hb
        have hkk : k ≠ k0 := fun z => by rw [z, hk0] at hk; cases hk; exact hba rfl
        exact g1 k _ (by rw [List.getElem?_set_ne (Ne.symm hkk)]; exact hk)
      · exact (hP b eb hb).kept (g3.2.1 b ((hP b eb hb).lt) hin)
  · refine ⟨Nat.le_trans hS.1 g3.1, fun q hq hn => ?_, fun l hl => hfrA _ (g3.2.2 l hl)⟩
    rw [g3.2.1 q (Nat.lt_of_lt_of_le hq hS.1) (fun z => hn (hfrA q z))]
    exact hS.2.1 q hq hn
/-- a row that makes one cell beside any world, read over the memory -/
theorem jv_make {G : jv_G} {M : jv_M} {H H0 : Heap} {locs : List Loc} {e : va_E} {Wf : Nat → Heap → List Loc → Prop} {W0 : Prop} (hP : jv_H G M H) (hS : va_S (jv_fr G) H0 H locs) (hb : G.1 ≤ H0.size)
    (row : ∀ (ws : va_W) (A : Nat → Prop), va_P G.2.1 jv_cl ws H → va_D A ws → va_S A H H locs → (∀ q : Nat, H.size ≤ q → A q) → (∀ (q : Nat) (H1 : Heap), va_P G.2.1 jv_cl (ws ++ [(q, e)]) H1 → va_D A (ws ++ [(q, e)]) → va_S A H H1 locs → Wf q H1 locs) → W0)
    (kk : ∀ (q : Nat) (H1 : Heap), M q = none → G.1 ≤ q → jv_H G (jv_up M q e) H1 → va_S (jv_fr G) H0 H1 locs → Wf q H1 locs) : W0 := by
  obtain ⟨ws, h1, h2, h3, h4⟩ := jv_world hP (locs.map (fun l => l.base))
  have hfrA : ∀ q : Nat, (H.size ≤ q ∨ q ∈ locs.map (fun l => l.base)) → jv_fr G q := by
    intro q hq
    rcases hq with hq | hq
    · exact Nat.le_trans hb (Nat.le_trans hS.1 hq)
    · obtain ⟨l, hl, rfl⟩ := List.mem_map.mp hq
      exact hS.2.2 l hl
  refine row ws (fun q => H.size ≤ q ∨ q ∈ locs.map (fun l => l.base)) h1 (h2.weaken (fun k q _ h => Or.inr h)) ⟨Nat.le_refl _, fun _ _ _ => rfl, fun l hl => Or.inr (List.mem_map_of_mem hl)⟩ (fun q h => Or.inl h) fun q H1 g1 g2 g3 => ?_
  have hlast : (ws ++ [(q, e)])[ws.length]? = some (q, e) := by rw [List.getElem?_append_right (Nat.le_refl _), Nat.sub_self]; rfl
  have hq := g2.2 _ _ hlast
  have hnew : M q = none := by
    cases hm : M q with
    | none => rfl
    | some eb =>
      have hlt := (hP q eb hm).lt
      rcases hq with hq | hq
      · exact absurd hlt (Nat.not_lt.mpr hq)
      · obtain ⟨k, hk⟩ := h3 q eb hq hm
        have hkl := (List.getElem?_eq_some_iff.mp hk).1
        have := g2.1 k ws.length (q, eb) (q, e) (by rw [List.getElem?_append_left hkl]; exact hk) hlast rfl
        omega
  refine kk q H1 hnew (hfrA q hq) ?_ ?_
  · intro b eb hb2
    by_cases hba : b = q
    · subst hba
      rw [jv_up_s] at hb2
      cases hb2
      exact g1 _ _ hlast
    · rw [jv_up_n hba] at hb2
      by_cases hin : b ∈ locs.map (fun l => l.base)
      · obtain ⟨k, hk⟩ := h3 b eb hin hb2
        have hkl := (List.getElem?_eq_some_iff.mp hk).1
        exact g1 k _ (by rw [List.getElem?_append_left hkl]; exact hk)
      · have hlt := (hP b eb hb2).lt
        exact (hP b eb hb2).kept (g3.2.1 b hlt (fun z => z.elim (fun z => Nat.not_le.mpr hlt z) hin))
  · refine ⟨Nat.le_trans hS.1 g3.1, fun p hp hn => ?_, fun l hl => hfrA _ (g3.2.2 l hl)⟩
    rw [g3.2.1 p (Nat.lt_of_lt_of_le hp hS.1) (fun z => hn (hfrA p z))]
    exact hS.2.1 p hp hn
section JW
variable {x : jv_X} {G : jv_G} {y : MethodName} {cc : ByteArray} {nL fr mc ms lo : Nat} {ret : Option FieldType} {Q : State → Prop} {M : jv_M} {k n pc : Nat} {lv : List (Nat × Value)} {st : List Value}
theorem jv_put {C : String} {T : u_T} {N ci index : Nat} {ref : String} {a : Nat} {fs fs' : List Value} {v : Value} {ty : FieldType} (X : jv_C x G y cc nL ret fr mc ms lo) (d : decode cc pc = .ok (.putfield index, 3)) (hm : M a = some (.inr (ci, fs))) (hfr : G.1 ≤ a) (hc : jv_cl[ci]? = some (C, T, N)) (hin : ∀ w ∈ u_ws C T N, w ∈ lw_all) (ty0 : Nat → FieldType) (hty : ∀ k, k < N → parseFieldDescriptor (T k).2.2.1 = some (ty0 k)) (hnm : ∀ a, a < N → ∀ b, b < N → a ≠ b → (T a).2.1 ≠ (T b).2.1)
    (i : Nat) (hi : i < N) (hlink : Cond.fieldLink y.cls index ref (T i).2.1 (T i).2.2.1 ∈ lw_all) (hsame : (T i).1 = ref) (hfin : (T i).2.2.2 = false) (hd : ty0 i = ty) (hn : narrow ty v = v) (hfit : fits ty v = true) (hl : i < fs.length) (hs : fs.set i v = fs')
    (kk : jv_J x G nL Q (jv_up M a (.inr (ci, fs'))) k n (pc + 3) lv st) : jv_J x G nL Q M k n pc lv (v :: .ref a :: st) := fun H locs ls hP hS hls =>
  jv_write hP hS hm hfr [] (fun q h => by cases h) (fun ws A k0 h1 h2 h3 h4 _ g => va_put X.exec X.code X.hts hin ty0 hty hnm X.own X.K h1 h2 h3 k0 h4 hc i hi (X.hts _ hlink) (fun z hz => by rw [← hsame]; exact hz) hfin (by rw [hty i hi, hd]) hn hfit hl d (by rw [hs]; exact g)) (fun H1 l1 a1 a2 => kk H1 l1 ls a1 a2 hls)
theorem jv_putF {C : String} {T : u_T} {N ci index : Nat} {ref : String} {a : Nat} {fs fs' : List Value} {v : Value} {ty : FieldType} (X : jv_C x G y cc nL ret fr mc ms lo) (d : decode cc pc = .ok (.putfield index, 3)) (hm : M a = some (.inr (ci, fs))) (hfr : G.1 ≤ a) (hc : jv_cl[ci]? = some (C, T, N)) (hin : ∀ w ∈ u_ws C T N, w ∈ lw_all) (ty0 : Nat → FieldType) (hty : ∀ k, k < N → parseFieldDescriptor (T k).2.2.1 = some (ty0 k)) (hnm : ∀ a, a < N → ∀ b, b < N → a ≠ b → (T a).2.1 ≠ (T b).2.1)
    (i : Nat) (hi : i < N) (hlink : Cond.fieldLink y.cls index ref (T i).2.1 (T i).2.2.1 ∈ lw_all) (hsame : (T i).1 = ref) (hfin : (T i).2.2.2 = true) (hin2 : y.name = "<init>") (hdecl : (T i).1 = y.cls) (hd : ty0 i = ty) (hn : narrow ty v = v) (hfit : fits ty v = true) (hl : i < fs.length) (hs : fs.set i v = fs')
    (kk : jv_J x G nL Q (jv_up M a (.inr (ci, fs'))) k n (pc + 3) lv st) : jv_J x G nL Q M k n pc lv (v :: .ref a :: st) := fun H locs ls hP hS hls =>
  jv_write hP hS hm hfr [] (fun q h => by cases h) (fun ws A k0 h1 h2 h3 h4 _ g => va_putF X.exec X.code X.hts hin ty0 hty hnm X.own X.K h1 h2 h3 k0 h4 hc i hi (X.hts _ hlink) (fun z hz => by rw [← hsame]; exact hz) hfin (by rw [X.name]; exact hin2) hdecl (by rw [hty i hi, hd]) hn hfit hl d (by rw [hs]; exact g)) (fun H1 l1 a1 a2 => kk H1 l1 ls a1 a2 hls)
theorem jv_putN {C : String} {T : u_T} {N ci index : Nat} {ref host : String} {a : Nat} {fs fs' : List Value} {v : Value} {ty : FieldType} (X : jv_C x G y cc nL ret fr mc ms lo) (d : decode cc pc = .ok (.putfield index, 3)) (hm : M a = some (.inr (ci, fs))) (hfr : G.1 ≤ a) (hc : jv_cl[ci]? = some (C, T, N)) (hin : ∀ w ∈ u_ws C T N, w ∈ lw_all) (ty0 : Nat → FieldType) (hty : ∀ k, k < N → parseFieldDescriptor (T k).2.2.1 = some (ty0 k)) (hnm : ∀ a, a < N → ∀ b, b < N → a ≠ b → (T a).2.1 ≠ (T b).2.1)
    (i : Nat) (hi : i < N) (hlink : Cond.fieldLinkNest y.cls index ref (T i).2.1 (T i).2.2.1 host ∈ lw_tbl) (hsame : (T i).1 = ref) (hfin : (T i).2.2.2 = false) (hd : ty0 i = ty) (hn : narrow ty v = v) (hfit : fits ty v = true) (hl : i < fs.length) (hs : fs.set i v = fs')
    (kk : jv_J x G nL Q (jv_up M a (.inr (ci, fs'))) k n (pc + 3) lv st) : jv_J x G nL Q M k n pc lv (v :: .ref a :: st) := fun H locs ls hP hS hls =>
  jv_write hP hS hm hfr [] (fun q h => by cases h) (fun ws A k0 h1 h2 h3 h4 _ g => va_putN X.exec X.code X.hts hin ty0 hty hnm X.own X.K h1 h2 h3 k0 h4 hc i hi (va_Nw.use rfl (X.nw hlink rfl)) (fun z hz => by rw [← hsame]; exact hz) hfin (by rw [hty i hi, hd]) hn hfit hl d (by rw [hs]; exact g)) (fun H1 l1 a1 a2 => kk H1 l1 ls a1 a2 hls)
theorem jv_iald {a N : Nat} {f : Nat → Int32} {i v : Int32} (X : jv_C x G y cc nL ret fr mc ms lo) (d : decode cc pc = .ok (.iaload, 1)) (hm : M a = some (.inl (G.2.2.1 0, N, .inl f))) (hin : vp_in i N) (hv : f i.toNatClampNeg = v)
    (kk : jv_J x G nL Q M k n (pc + 1) lv (.int v :: st)) : jv_J x G nL Q M k n pc lv (.int i :: .ref a :: st) := fun H locs ls hP hS hl =>
  va_iald X.exec X.code X.K (jv_one hP hm) 0 0 rfl rfl hin d (by rw [hv]; exact kk H locs ls hP hS hl)
theorem jv_bald {a N : Nat} {f : Nat → Int32} {i v : Int32} (X : jv_C x G y cc nL ret fr mc ms lo) (d : decode cc pc = .ok (.baload, 1)) (hm : M a = some (.inl (G.2.2.1 2, N, .inl f))) (hin : vp_in i N) (hv : f i.toNatClampNeg = v)
    (kk : jv_J x G nL Q M k n (pc + 1) lv (.int v :: st)) : jv_J x G nL Q M k n pc lv (.int i :: .ref a :: st) := fun H locs ls hP hS hl =>
  va_bald X.exec X.code X.K (jv_one hP hm) 0 2 rfl rfl hin d (by rw [hv]; exact kk H locs ls hP hS hl)
theorem jv_aald {a N : Nat} {f : Nat → Option Nat} {i : Int32} {v : Value} (X : jv_C x G y cc nL ret fr mc ms lo) (d : decode cc pc = .ok (.aaload, 1)) (hm : M a = some (.inl (G.2.2.1 1, N, .inr (.inr (.inr (.inr f)))))) (hin : vp_in i N) (hv : va_rf (f i.toNatClampNeg) = v)
    (kk : jv_J x G nL Q M k n (pc + 1) lv (v :: st)) : jv_J x G nL Q M k n pc lv (.int i :: .ref a :: st) := fun H locs ls hP hS hl =>
  va_aldq X.exec X.code X.K (jv_one hP hm) 0 1 rfl rfl hin d (by rw [hv]; exact kk H locs ls hP hS hl)
theorem jv_alen {a t0 : Nat} {z : vp_A} {ty : FieldType} {v : Int32} (X : jv_C x G y cc nL ret fr mc ms lo) (d : decode cc pc = .ok (.arraylength, 1)) (hm : M a = some (.inl (G.2.2.1 t0, z))) (ht : (jv_tys G.2.2.1)[t0]? = some (G.2.2.1 t0, ty)) (hv : nI z.1 = v)
    (kk : jv_J x G nL Q M k n (pc + 1) lv (.int v :: st)) : jv_J x G nL Q M k n pc lv (.ref a :: st) := fun H locs ls hP hS hl =>
  va_alen X.exec X.code X.K (jv_one hP hm) 0 t0 rfl ht hv d (kk H locs ls hP hS hl)
theorem jv_iast {a N : Nat} {f g : Nat → Int32} {i v : Int32} (X : jv_C x G y cc nL ret fr mc ms lo) (d : decode cc pc = .ok (.iastore, 1)) (hm : M a = some (.inl (G.2.2.1 0, N, .inl f))) (hfr : G.1 ≤ a) (hin : vp_in i N) (hg : upd f i.toNatClampNeg v = g)
    (kk : jv_J x G nL Q (jv_up M a (.inl (G.2.2.1 0, N, .inl g))) k n (pc + 1) lv st) : jv_J x G nL Q M k n pc lv (.int v :: .int i :: .ref a :: st) := fun H locs ls hP hS hls =>
  jv_write hP hS hm hfr [] (fun q h => by cases h) (fun ws A k0 h1 h2 h3 h4 _ g1 => va_iast X.exec X.code X.K h1 h2 h3 k0 0 h4 rfl hin d (by rw [hg]; exact g1)) (fun H1 l1 a1 a2 => kk H1 l1 ls a1 a2 hls)
theorem jv_bast {a N : Nat} {f g : Nat → Int32} {i v : Int32} (X : jv_C x G y cc nL ret fr mc ms lo) (d : decode cc pc = .ok (.bastore, 1)) (hm : M a = some (.inl (G.2.2.1 2, N, .inl f))) (hfr : G.1 ≤ a) (hin : vp_in i N) (hg : upd f i.toNatClampNeg (vp_nar .byte v) = g)
    (kk : jv_J x G nL Q (jv_up M a (.inl (G.2.2.1 2, N, .inl g))) k n (pc + 1) lv st) : jv_J x G nL Q M k n pc lv (.int v :: .int i :: .ref a :: st) := fun H locs ls hP hS hls =>
  jv_write hP hS hm hfr [] (fun q h => by cases h) (fun ws A k0 h1 h2 h3 h4 _ g1 => va_bast X.exec X.code X.K h1 h2 h3 k0 2 h4 rfl hin d (by rw [hg]; exact g1)) (fun H1 l1 a1 a2 => kk H1 l1 ls a1 a2 hls)
theorem jv_new {C : String} {T : u_T} {N ci index k1 n1 : Nat} {fs : List Value} (X : jv_C x G y cc nL ret fr mc ms lo) (d : decode cc pc = .ok (.new index, 3)) (hc : jv_cl[ci]? = some (C, T, N)) (hin : ∀ w ∈ u_ws C T N, w ∈ lw_all) (ty : Nat → FieldType) (hty : ∀ k, k < N → parseFieldDescriptor (T k).2.2.1 = some (ty k)) (hcl : Cond.classLink y.cls index C ∈ lw_all) (hinst : Cond.instantiable C N ∈ lw_all) (hini : Cond.initialized C ∈ lw_all)
    (hfs : (List.range N).map (fun j => defaultValue (ty j)) = fs) (hk1 : k + 1 = k1) (hn1 : n + N = n1) (hk : k1 ≤ mc) (hn : n1 ≤ ms)
    (kk : ∀ q : Nat, M q = none → G.1 ≤ q → jv_J x G nL Q (jv_up M q (.inr (ci, fs))) k1 n1 (pc + 3) lv (.ref q :: st)) : jv_J x G nL Q M k n pc lv st := fun H locs ls hP hS hls => by
  subst hk1; subst hn1
  refine jv_make (Wf := fun q H1 l1 => W (jv_p x) (jv_l x) (jv_e x) (jv_R x) (jv_s x) (jv_m x) (jv_a x) (jv_b x) (jv_h x) (jv_c x) H1 l1 (k + 1) (n + N) Q (F0 (jv_m x) (pc + 3) ls (.ref q :: st))) hP hS X.env.1 (fun ws A h1 h2 h3 h4 g => va_new X.exec X.code X.hts hin ty hty X.own (X.hts _ hcl) (X.hts _ hinst) (X.hts _ hini) X.K h1 h2 h3 h4 hc (fs := fs) (fun j hj => ?_) (by rw [X.room]; exact hk) (by rw [X.room]; exact hn) d g) (fun q H1 a1 a2 a3 a4 => kk q a1 a2 H1 locs ls a3 a4 hls)
  rw [← hfs]
  simp [vp_V, List.getD, hj]
theorem jv_astq {a N v ci : Nat} {f g : Nat → Option Nat} {i : Int32} {r : vw_C} {vs : List Value} (X : jv_C x G y cc nL ret fr mc ms lo) (d : decode cc pc = .ok (.aastore, 1)) (hm : M a = some (.inl (G.2.2.1 1, N, .inr (.inr (.inr (.inr f)))))) (hfr : G.1 ≤ a) (hv : M v = some (.inr (ci, vs))) (hfv : G.1 ≤ v) (hc : jv_cl[ci]? = some r) (hcast : Cond.castable r.1 "java/lang/Object" ∈ lw_tbl) (hin : vp_in i N) (hg : va_up f i.toNatClampNeg (some v) = g)
    (kk : jv_J x G nL Q (jv_up M a (.inl (G.2.2.1 1, N, .inr (.inr (.inr (.inr g)))))) k n (pc + 1) lv st) : jv_J x G nL Q M k n pc lv (.ref v :: .int i :: .ref a :: st) := fun H locs ls hP hS hls =>
  jv_write hP hS hm hfr [v] (fun q h => by rw [List.mem_singleton.mp h]; exact hfv) (fun ws A k0 h1 h2 h3 h4 h5 g1 => by
    obtain ⟨kv, hkv⟩ := h5 v _ (List.mem_singleton.mpr rfl) hv
    exact va_astqO X.exec X.code X.K h1 h2 h3 k0 1 kv ci h4 rfl (X.nw hcast rfl) hkv hc hin d (by rw [hg]; exact g1)) (fun H1 l1 a1 a2 => kk H1 l1 ls a1 a2 hls)
theorem jv_astqN {a N : Nat} {f g : Nat → Option Nat} {i : Int32} (X : jv_C x G y cc nL ret fr mc ms lo) (d : decode cc pc = .ok (.aastore, 1)) (hm : M a = some (.inl (G.2.2.1 1, N, .inr (.inr (.inr (.inr f)))))) (hfr : G.1 ≤ a) (hin : vp_in i N) (hg : va_up f i.toNatClampNeg none = g)
    (kk : jv_J x G nL Q (jv_up M a (.inl (G.2.2.1 1, N, .inr (.inr (.inr (.inr g)))))) k n (pc + 1) lv st) : jv_J x G nL Q M k n pc lv (.null :: .int i :: .ref a :: st) := fun H locs ls hP hS hls =>
  jv_write hP hS hm hfr [] (fun q h => by cases h) (fun ws A k0 h1 h2 h3 h4 _ g1 => va_astqN X.exec X.code X.K h1 h2 h3 k0 1 h4 rfl hin d (by rw [hg]; exact g1)) (fun H1 l1 a1 a2 => kk H1 l1 ls a1 a2 hls)
end JW
