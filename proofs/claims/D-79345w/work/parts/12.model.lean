/-! THE REFERENCE'S MEMORY: its object and 14 arrays over any other memory; rows that read and write it; Nats in Int32 -/
set_option maxRecDepth 100000
def bI (b : Bool) : Int32 := if b then 1 else 0
theorem bI_t : bI true = 1 := rfl
theorem bI_f : bI false = 0 := rfl
theorem bI_nar (b : Bool) : narrow .boolean (.int (bI b)) = .int (bI b) := by cases b <;> rfl
theorem bI_fit (b : Bool) : fits .boolean (.int (bI b)) = true := by cases b <;> rfl
theorem bI_e0 {b : Bool} : bI b = 0 ↔ b = false := by cases b <;> simp [bI]
theorem bI_dec {c : Prop} [Decidable c] : bI (decide c) = if c then 1 else 0 := by by_cases h : c <;> simp [bI, h]
theorem ni_or (a b : Nat) : nI a ||| nI b = nI (a ||| b) := by
  have h : (nI a ||| nI b).toBitVec = (nI (a ||| b)).toBitVec := by
    show BitVec.ofNat 32 a ||| BitVec.ofNat 32 b = BitVec.ofNat 32 (a ||| b)
    exact (BitVec.ofNat_or ..).symm
  exact Int32.toBitVec_inj.mp h
theorem ni_and (a b : Nat) : nI a &&& nI b = nI (a &&& b) := by
  have h : (nI a &&& nI b).toBitVec = (nI (a &&& b)).toBitVec := by
    show BitVec.ofNat 32 a &&& BitVec.ofNat 32 b = BitVec.ofNat 32 (a &&& b)
    exact (BitVec.ofNat_and ..).symm
  exact Int32.toBitVec_inj.mp h
theorem ni_sh31 : ∀ k, k < 32 → ((nI k &&& 31).toBitVec.smod 32).toNat = k := by decide
theorem ni_shl1 {k : Nat} (h : k < 31) : nI 1 <<< (nI k &&& 31) = nI (2 ^ k) := by
  have := pk_shlN (n := 1) (nI k &&& 31) k (ni_sh31 k (by omega)) (by rw [Nat.one_mul]; exact Nat.pow_lt_pow_right (by omega) (by omega))
  rw [Nat.one_mul] at this
  exact this
theorem ni_shr {m k : Nat} (hm : m < 2 ^ 31) (h : k < 32) : nI m >>> (nI k &&& 31) = nI (m / 2 ^ k) := pk_shrN hm _ k (ni_sh31 k h)
theorem ni_div {a d : Nat} (ha : a < 2 ^ 31) (h0 : 0 < d) (hd : d < 2 ^ 31) : nI a / nI d = nI (a / d) := pk_div ha h0 hd
theorem ni_nz {d : Nat} (h0 : 0 < d) (hd : d < 2 ^ 31) : ¬ nI d = 0 := nI_ne0 h0 hd
theorem ni_m1 {n : Nat} (h : n < 2 ^ 31) : (nI n - nI 1).toInt = (n : Int) - 1 := by
  rcases Nat.eq_zero_or_pos n with rfl | h0
  · decide
  · rw [pk_sub h0, nI_toInt (by omega)]; omega
theorem jt_nat {u : Int32} {m : Nat} (hm : m < 2 ^ 30) (h : ¬ (u.toInt < 0 ∨ (m : Int) < u.toInt)) : ∃ j : Nat, j ≤ m ∧ u = nI j := by
  have h0 : ¬ u < 0 := fun z => h (Or.inl (by simpa [Int32.lt_iff_toInt_lt] using z))
  obtain ⟨j, hj, rfl⟩ := nI_of h0
  rw [nI_toInt hj] at h
  exact ⟨j, by omega, rfl⟩
theorem jt_out5 {u : Int32} (h0 : ¬ u = nI 0) (h1 : ¬ u = nI 1) (h2 : ¬ u = nI 2) (h3 : ¬ u = nI 3) (h4 : ¬ u = nI 4) : u.toInt < 0 ∨ 4 < u.toInt := by
  refine Classical.byContradiction fun h => ?_
  obtain ⟨j, hj, rfl⟩ := jt_nat (m := 4) (by decide) h
  rcases (by omega : j = 0 ∨ j = 1 ∨ j = 2 ∨ j = 3 ∨ j = 4) with rfl | rfl | rfl | rfl | rfl
  · exact h0 rfl
  · exact h1 rfl
  · exact h2 rfl
  · exact h3 rfl
  · exact h4 rfl
theorem jt_out4 {u : Int32} (h0 : ¬ u = nI 0) (h1 : ¬ u = nI 1) (h2 : ¬ u = nI 2) (h3 : ¬ u = nI 3) : u.toInt < 0 ∨ 3 < u.toInt := by
  refine Classical.byContradiction fun h => ?_
  obtain ⟨j, hj, rfl⟩ := jt_nat (m := 3) (by decide) h
  rcases (by omega : j = 0 ∨ j = 1 ∨ j = 2 ∨ j = 3) with rfl | rfl | rfl | rfl
  · exact h0 rfl
  · exact h1 rfl
  · exact h2 rfl
  · exact h3 rfl
theorem jt_out6 {u : Int32} (h0 : ¬ u = nI 0) (h1 : ¬ u = nI 1) (h2 : ¬ u = nI 2) (h3 : ¬ u = nI 3) (h4 : ¬ u = nI 4) (h5 : ¬ u = nI 5) : u.toInt < 0 ∨ 5 < u.toInt := by
  rcases jt_out5 h0 h1 h2 h3 h4 with h | h
  · exact Or.inl h
  · refine Or.inr (Classical.byContradiction fun z => h5 ?_)
    obtain ⟨j, hj, rfl⟩ := jt_nat (u := u) (m := 5) (by decide) (by omega)
    rw [nI_toInt (by omega)] at h
    rw [show j = 5 by omega]
theorem mdA_n {A : Nat → Nat → Int32} {i i' j j' : Nat} {v : Int32} (h : i' ≠ i) : va_up A i (upd (A i) j v) i' j' = A i' j' := by
  simp [va_up, h]
theorem ln_shr {m k : Nat} (hm : m < 2 ^ 62) (hk : k < 64) : lN m >>> ((nI k).toInt64 &&& 63) = lN (m / 2 ^ k) := by
  rw [wb_c k hk]
  exact pf_shr (by rw [wb_tb, wb_sm k hk, BitVec.toNat_ofNat]; omega) hm
theorem ln_and1 {m : Nat} (hm : m < 2 ^ 64) : lN m &&& lN 1 = lN (m % 2) := wb_a1 hm
theorem ln_shl1 {k : Nat} (hk : k < 64) : lN 1 <<< ((nI k).toInt64 &&& 63) = lN (2 ^ k) := by rw [wb_shl 1 hk, Nat.one_mul]
theorem lg_cmp0 {u v : Int64} : lg_cmp u v = 0 ↔ u = v := by
  unfold lg_cmp
  by_cases h1 : u > v
  · rw [if_pos h1]
    constructor
    · intro z; exact absurd z (by decide)
    · intro z; subst z; exact absurd h1 Int64.lt_irrefl
  · rw [if_neg h1]
    by_cases h2 : u = v
    · rw [if_pos h2]; exact ⟨fun _ => h2, fun _ => rfl⟩
    · rw [if_neg h2]; exact ⟨fun z => absurd z (by decide), fun z => absurd z h2⟩
abbrev md_O : Type := jv_M × Nat × (Nat → Nat)
def md_ix : List Nat := [0, 1, 2, 3, 6, 10, 12, 13, 14, 15, 18, 19, 20, 25]
def md_sc : List Nat := [4, 7, 8, 9, 11, 16, 17, 21, 22, 23, 26]
def md_len (k : Nat) : Nat := match k with
  | 0 => 237 | 1 => 237 | 2 => 237 | 3 => 1896 | 6 => 60 | 10 => 120 | 13 => 40 | 14 => 40 | 15 => 40 | 25 => 155 | _ => 6
def md_obj (ad : Nat → Nat) (F : Nat → Int32) : List Value := [.ref (ad 0), .ref (ad 1), .ref (ad 2), .ref (ad 3), .int (F 4), .int (F 5), .ref (ad 6), .int (F 7), .int (F 8), .int (F 9), .ref (ad 10), .int (F 11), .ref (ad 12), .ref (ad 13), .ref (ad 14), .ref (ad 15), .int (F 16), .int (F 17), .ref (ad 18), .ref (ad 19), .ref (ad 20), .int (F 21), .int (F 22), .int (F 23), .int (F 24), .ref (ad 25), .int (F 26)]
def md_M (G : jv_G) (o : md_O) (F : Nat → Int32) (A : Nat → Nat → Int32) : jv_M := fun q => if q = o.2.1 then some (.inr (2, md_obj o.2.2 F)) else match md_ix.find? (fun k => o.2.2 k == q) with
  | some k => some (.inl (G.2.2.1 0, md_len k, .inl (A k)))
  | none => o.1 q
def md_K (G : jv_G) (o : md_O) : Prop := G.1 ≤ o.2.1 ∧ (∀ k ∈ md_ix, G.1 ≤ o.2.2 k ∧ o.2.2 k ≠ o.2.1) ∧ ∀ i ∈ md_ix, ∀ j ∈ md_ix, o.2.2 i = o.2.2 j → i = j
section MD
variable {G : jv_G} {o : md_O} {F : Nat → Int32} {A : Nat → Nat → Int32}
theorem md_M_o : md_M G o F A o.2.1 = some (.inr (2, md_obj o.2.2 F)) := if_pos rfl
theorem md_find (hO : md_K G o) {k : Nat} (hk : k ∈ md_ix) : md_ix.find? (fun j => o.2.2 j == o.2.2 k) = some k := by
  cases h : md_ix.find? (fun j => o.2.2 j == o.2.2 k) with
  | none => exact absurd (beq_self_eq_true (o.2.2 k)) (by simpa using (List.find?_eq_none.mp h) k hk)
  | some i =>
    have h1 := List.find?_some h
    have h2 := List.mem_of_find?_eq_some h
    exact congrArg some (hO.2.2 i h2 k hk (by simpa using h1))
theorem md_M_a (hO : md_K G o) {k : Nat} (hk : k ∈ md_ix) : md_M G o F A (o.2.2 k) = some (.inl (G.2.2.1 0, md_len k, .inl (A k))) := by
  unfold md_M
  rw [if_neg (hO.2.1 k hk).2, md_find hO hk]
theorem md_up_o {F' : Nat → Int32} : jv_up (md_M G o F A) o.2.1 (.inr (2, md_obj o.2.2 F')) = md_M G o F' A := by
  funext q
  by_cases hq : q = o.2.1
  · rw [hq, jv_up_s, md_M_o]
  · rw [jv_up_n hq]
    unfold md_M
    rw [if_neg hq, if_neg hq]
theorem md_up_a (hO : md_K G o) {k : Nat} (hk : k ∈ md_ix) {a : Nat → Int32} : jv_up (md_M G o F A) (o.2.2 k) (.inl (G.2.2.1 0, md_len k, .inl a)) = md_M G o F (va_up A k a) := by
  funext q
  by_cases hq : q = o.2.2 k
  · rw [hq, jv_up_s, md_M_a hO hk]
    simp [va_up]
  · rw [jv_up_n hq]
    unfold md_M
    by_cases hq0 : q = o.2.1
    · rw [if_pos hq0, if_pos hq0]
    · rw [if_neg hq0, if_neg hq0]
      cases h : md_ix.find? (fun j => o.2.2 j == q) with
      | none => rfl
      | some i =>
        have h1 : o.2.2 i = q := by simpa using List.find?_some h
        have hne : i ≠ k := fun z => hq (by rw [← h1, z])
        simp [va_up, hne]
theorem TX2_cls (i : Nat) : (TX2 i).1 = RX2 := by
  unfold TX2
  split <;> rfl
theorem md_obj_len (ad : Nat → Nat) (F : Nat → Int32) : (md_obj ad F).length = 27 := rfl
variable {x : jv_X} {y : MethodName} {cc : ByteArray} {nL fr mc ms lo : Nat} {ret : Option FieldType} {Q : State → Prop} {k n pc : Nat} {lv : List (Nat × Value)} {st : List Value}
theorem jm_getF {index : Nat} {v : Int32} (X : jv_C x G y cc nL ret fr mc ms lo) (d : decode cc pc = .ok (.getfield index, 3)) (i : Nat) (hi : i < 27) (hlink : Cond.fieldLink y.cls index RX2 (TX2 i).2.1 (TX2 i).2.2.1 ∈ lw_all) (hx : (md_obj o.2.2 F)[i]? = some (.int (F i))) (hv : F i = v)
    (kk : jv_J x G nL Q (md_M G o F A) k n (pc + 3) lv (.int v :: st)) : jv_J x G nL Q (md_M G o F A) k n pc lv (.ref o.2.1 :: st) :=
  jv_get X d md_M_o (T := TX2) (N := 27) (C := RX2) rfl in_X2 i hi hlink (TX2_cls i) (by rw [hx, hv]) kk
theorem jm_getA {index : Nat} (X : jv_C x G y cc nL ret fr mc ms lo) (d : decode cc pc = .ok (.getfield index, 3)) (i : Nat) (hi : i < 27) (hlink : Cond.fieldLink y.cls index RX2 (TX2 i).2.1 (TX2 i).2.2.1 ∈ lw_all) (hx : (md_obj o.2.2 F)[i]? = some (.ref (o.2.2 i)))
    (kk : jv_J x G nL Q (md_M G o F A) k n (pc + 3) lv (.ref (o.2.2 i) :: st)) : jv_J x G nL Q (md_M G o F A) k n pc lv (.ref o.2.1 :: st) :=
  jv_get X d md_M_o (T := TX2) (N := 27) (C := RX2) rfl in_X2 i hi hlink (TX2_cls i) hx kk
theorem jm_putF {index : Nat} {v : Int32} {ty : FieldType} (X : jv_C x G y cc nL ret fr mc ms lo) (hO : md_K G o) (d : decode cc pc = .ok (.putfield index, 3)) (i : Nat) (hi : i < 27) (hlink : Cond.fieldLink y.cls index RX2 (TX2 i).2.1 (TX2 i).2.2.1 ∈ lw_all) (hfin : (TX2 i).2.2.2 = false) (hd : tyX2 i = ty) (hn : narrow ty (.int v) = .int v) (hfit : fits ty (.int v) = true) (hs : (md_obj o.2.2 F).set i (.int v) = md_obj o.2.2 (upd F i v))
    (kk : jv_J x G nL Q (md_M G o (upd F i v) A) k n (pc + 3) lv st) : jv_J x G nL Q (md_M G o F A) k n pc lv (.int v :: .ref o.2.1 :: st) :=
  jv_put X d md_M_o hO.1 (T := TX2) (N := 27) (C := RX2) rfl in_X2 tyX2 tyX2_ok nmX2 i hi hlink (TX2_cls i) hfin hd hn hfit (by rw [md_obj_len]; exact hi) hs (by rw [md_up_o]; exact kk)
theorem jm_ld {j : Nat} {v : Int32} (X : jv_C x G y cc nL ret fr mc ms lo) (hO : md_K G o) (d : decode cc pc = .ok (.iaload, 1)) (i : Nat) (hi : i ∈ md_ix) (hj : j < md_len i) (hv : A i j = v)
    (kk : jv_J x G nL Q (md_M G o F A) k n (pc + 1) lv (.int v :: st)) : jv_J x G nL Q (md_M G o F A) k n pc lv (.int (nI j) :: .ref (o.2.2 i) :: st) := by
  have hl : md_len i < 2 ^ 31 := by unfold md_len; split <;> decide
  exact jv_iald X d (md_M_a hO hi) (vp_in_nI hj hl) (by rw [nI_clamp (Nat.lt_trans hj hl)]; exact hv) kk
/-- one place of one of the reference's arrays -/
def mdA (A : Nat → Nat → Int32) (i j : Nat) (v : Int32) : Nat → Nat → Int32 := va_up A i (upd (A i) j v)
theorem jm_st {j : Nat} {v : Int32} (X : jv_C x G y cc nL ret fr mc ms lo) (hO : md_K G o) (d : decode cc pc = .ok (.iastore, 1)) (i : Nat) (hi : i ∈ md_ix) (hj : j < md_len i)
    (kk : jv_J x G nL Q (md_M G o F (mdA A i j v)) k n (pc + 1) lv st) : jv_J x G nL Q (md_M G o F A) k n pc lv (.int v :: .int (nI j) :: .ref (o.2.2 i) :: st) := by
  have hl : md_len i < 2 ^ 31 := by unfold md_len; split <;> decide
  exact jv_iast X d (md_M_a hO hi) (hO.2.1 i hi).1 (vp_in_nI hj hl) (by rw [nI_clamp (Nat.lt_trans hj hl)]) (by rw [md_up_a hO hi]; exact kk)
variable {M : jv_M}
theorem jv_to {lv' : List (Nat × Value)} {st' : List Value} (h1 : lv = lv') (h2 : st = st') (kk : jv_J x G nL Q M k n pc lv' st') : jv_J x G nL Q M k n pc lv st := by
  subst h1; subst h2; exact kk
theorem jn_icmp_ge {a b : Nat} {off : Int} (tgt : Nat) (X : jv_C x G y cc nL ret fr mc ms lo) (d : decode cc pc = .ok (.if_icmp .ge off, 3)) (ht : (pc : Int) + off = (tgt : Int)) (ha : a < 2 ^ 31) (hb : b < 2 ^ 31) (kt : b ≤ a → jv_J x G nL Q M k n tgt lv st) (kf : a < b → jv_J x G nL Q M k n (pc + 3) lv st) : jv_J x G nL Q M k n pc lv (.int (nI b) :: .int (nI a) :: st) :=
  jv_icmp_ge tgt X d ht (fun h => kt ((nI_leI hb ha).mp h)) (fun h => kf (Nat.not_le.mp fun z => h ((nI_leI hb ha).mpr z)))
theorem jn_icmp_lt {a b : Nat} {off : Int} (tgt : Nat) (X : jv_C x G y cc nL ret fr mc ms lo) (d : decode cc pc = .ok (.if_icmp .lt off, 3)) (ht : (pc : Int) + off = (tgt : Int)) (ha : a < 2 ^ 31) (hb : b < 2 ^ 31) (kt : a < b → jv_J x G nL Q M k n tgt lv st) (kf : b ≤ a → jv_J x G nL Q M k n (pc + 3) lv st) : jv_J x G nL Q M k n pc lv (.int (nI b) :: .int (nI a) :: st) :=
  jv_icmp_lt tgt X d ht (fun h => kt ((nI_ltI ha hb).mp h)) (fun h => kf (Nat.not_lt.mp fun z => h ((nI_ltI ha hb).mpr z)))
theorem jn_icmp_gt {a b : Nat} {off : Int} (tgt : Nat) (X : jv_C x G y cc nL ret fr mc ms lo) (d : decode cc pc = .ok (.if_icmp .gt off, 3)) (ht : (pc : Int) + off = (tgt : Int)) (ha : a < 2 ^ 31) (hb : b < 2 ^ 31) (kt : b < a → jv_J x G nL Q M k n tgt lv st) (kf : a ≤ b → jv_J x G nL Q M k n (pc + 3) lv st) : jv_J x G nL Q M k n pc lv (.int (nI b) :: .int (nI a) :: st) :=
  jv_icmp_gt tgt X d ht (fun h => kt ((nI_ltI hb ha).mp h)) (fun h => kf (Nat.not_lt.mp fun z => h ((nI_ltI hb ha).mpr z)))
theorem jn_icmp_le {a b : Nat} {off : Int} (tgt : Nat) (X : jv_C x G y cc nL ret fr mc ms lo) (d : decode cc pc = .ok (.if_icmp .le off, 3)) (ht : (pc : Int) + off = (tgt : Int)) (ha : a < 2 ^ 31) (hb : b < 2 ^ 31) (kt : a ≤ b → jv_J x G nL Q M k n tgt lv st) (kf : b < a → jv_J x G nL Q M k n (pc + 3) lv st) : jv_J x G nL Q M k n pc lv (.int (nI b) :: .int (nI a) :: st) :=
  jv_icmp_le tgt X d ht (fun h => kt ((nI_leI ha hb).mp h)) (fun h => kf (Nat.not_le.mp fun z => h ((nI_leI ha hb).mpr z)))
theorem jn_icmp_eq {a b : Nat} {off : Int} (tgt : Nat) (X : jv_C x G y cc nL ret fr mc ms lo) (d : decode cc pc = .ok (.if_icmp .eq off, 3)) (ht : (pc : Int) + off = (tgt : Int)) (ha : a < 2 ^ 31) (hb : b < 2 ^ 31) (kt : a = b → jv_J x G nL Q M k n tgt lv st) (kf : ¬ a = b → jv_J x G nL Q M k n (pc + 3) lv st) : jv_J x G nL Q M k n pc lv (.int (nI b) :: .int (nI a) :: st) :=
  jv_icmp_eq tgt X d ht (fun h => kt ((nI_eq ha hb).mp h)) (fun h => kf (fun z => h ((nI_eq ha hb).mpr z)))
theorem jn_icmp_ne {a b : Nat} {off : Int} (tgt : Nat) (X : jv_C x G y cc nL ret fr mc ms lo) (d : decode cc pc = .ok (.if_icmp .ne off, 3)) (ht : (pc : Int) + off = (tgt : Int)) (ha : a < 2 ^ 31) (hb : b < 2 ^ 31) (kt : ¬ a = b → jv_J x G nL Q M k n tgt lv st) (kf : a = b → jv_J x G nL Q M k n (pc + 3) lv st) : jv_J x G nL Q M k n pc lv (.int (nI b) :: .int (nI a) :: st) :=
  jv_icmp_ne tgt X d ht (fun h => kt (fun z => h ((nI_eq ha hb).mpr z))) (fun h => kf ((nI_eq ha hb).mp h))
theorem jn_if_eq {a : Nat} {off : Int} (tgt : Nat) (X : jv_C x G y cc nL ret fr mc ms lo) (d : decode cc pc = .ok (.ifCond .eq off, 3)) (ht : (pc : Int) + off = (tgt : Int)) (ha : a < 2 ^ 31) (kt : a = 0 → jv_J x G nL Q M k n tgt lv st) (kf : ¬ a = 0 → jv_J x G nL Q M k n (pc + 3) lv st) : jv_J x G nL Q M k n pc lv (.int (nI a) :: st) :=
  jv_if_eq tgt X d ht (fun h => kt ((nI_eq (b := 0) ha (by decide)).mp h)) (fun h => kf (fun z => h ((nI_eq (b := 0) ha (by decide)).mpr z)))
theorem jn_if_ne {a : Nat} {off : Int} (tgt : Nat) (X : jv_C x G y cc nL ret fr mc ms lo) (d : decode cc pc = .ok (.ifCond .ne off, 3)) (ht : (pc : Int) + off = (tgt : Int)) (ha : a < 2 ^ 31) (kt : ¬ a = 0 → jv_J x G nL Q M k n tgt lv st) (kf : a = 0 → jv_J x G nL Q M k n (pc + 3) lv st) : jv_J x G nL Q M k n pc lv (.int (nI a) :: st) :=
  jv_if_ne tgt X d ht (fun h => kt (fun z => h ((nI_eq (b := 0) ha (by decide)).mpr z))) (fun h => kf ((nI_eq (b := 0) ha (by decide)).mp h))
theorem jn_if_le {a : Nat} {off : Int} (tgt : Nat) (X : jv_C x G y cc nL ret fr mc ms lo) (d : decode cc pc = .ok (.ifCond .le off, 3)) (ht : (pc : Int) + off = (tgt : Int)) (ha : a < 2 ^ 31) (kt : a = 0 → jv_J x G nL Q M k n tgt lv st) (kf : 0 < a → jv_J x G nL Q M k n (pc + 3) lv st) : jv_J x G nL Q M k n pc lv (.int (nI a) :: st) :=
  jv_if_le tgt X d ht (fun h => kt (Nat.le_zero.mp ((nI_leI (b := 0) ha (by decide)).mp h))) (fun h => kf (Nat.pos_of_ne_zero fun z => h ((nI_leI (b := 0) ha (by decide)).mpr (by omega))))
theorem jn_if_gt {a : Nat} {off : Int} (tgt : Nat) (X : jv_C x G y cc nL ret fr mc ms lo) (d : decode cc pc = .ok (.ifCond .gt off, 3)) (ht : (pc : Int) + off = (tgt : Int)) (ha : a < 2 ^ 31) (kt : 0 < a → jv_J x G nL Q M k n tgt lv st) (kf : a = 0 → jv_J x G nL Q M k n (pc + 3) lv st) : jv_J x G nL Q M k n pc lv (.int (nI a) :: st) :=
  jv_if_gt tgt X d ht (fun h => kt ((nI_ltI (a := 0) (by decide) ha).mp h)) (fun h => kf (Nat.eq_zero_of_not_pos fun z => h ((nI_ltI (a := 0) (by decide) ha).mpr z)))
theorem jn_if_ge {a : Nat} {off : Int} (tgt : Nat) (X : jv_C x G y cc nL ret fr mc ms lo) (d : decode cc pc = .ok (.ifCond .ge off, 3)) (ht : (pc : Int) + off = (tgt : Int)) (ha : a < 2 ^ 31) (kt : jv_J x G nL Q M k n tgt lv st) : jv_J x G nL Q M k n pc lv (.int (nI a) :: st) :=
  jv_if_ge tgt X d ht (fun _ => kt) (fun h => absurd ((nI_leI (a := 0) (by decide) ha).mpr (Nat.zero_le _)) h)
theorem jn_if_lt {a : Nat} {off : Int} (X : jv_C x G y cc nL ret fr mc ms lo) (d : decode cc pc = .ok (.ifCond .lt off, 3)) (tgt : Nat) (ht : (pc : Int) + off = (tgt : Int)) (ha : a < 2 ^ 31) (kf : jv_J x G nL Q M k n (pc + 3) lv st) : jv_J x G nL Q M k n pc lv (.int (nI a) :: st) :=
  jv_if_lt tgt X d ht (fun h => absurd ((nI_ltI (b := 0) ha (by decide)).mp h) (Nat.not_lt_zero _)) (fun _ => kf)
theorem ni_d1 {d : Nat} (h : d < 2 ^ 31) : nI d - nI 1 = -1 ↔ d = 0 := by
  constructor
  · intro e
    rcases Nat.eq_zero_or_pos d with rfl | h0
    · rfl
    · rw [pk_sub h0] at e
      exact absurd e (by intro z; have := congrArg Int32.toInt z; rw [nI_toInt (by omega)] at this; simp at this)
  · rintro rfl; decide
theorem ni_shlm {d : Nat} (h : 0 < d ∧ d < 31) : nI 1 <<< ((nI d - nI 1) &&& 31) = nI (2 ^ (d - 1)) := by
  rw [pk_sub (show 1 ≤ d from h.1), ni_shl1 (by omega)]
theorem ni_a1 (n : Nat) : nI (n + 1) - nI 1 = nI n := by rw [pk_sub (by omega)]; rfl
theorem ni_dec (n : Nat) : nI n + Int32.ofInt (-1) = nI n - nI 1 := by rw [Int32.sub_eq_add_neg]; rfl
theorem jq_if_lt {d : Nat} {off : Int} (tgt : Nat) (X : jv_C x G y cc nL ret fr mc ms lo) (dd : decode cc pc = .ok (.ifCond .lt off, 3)) (ht : (pc : Int) + off = (tgt : Int)) (hd : d < 2 ^ 31) (kt : d = 0 → jv_J x G nL Q M k n tgt lv st) (kf : ¬ d = 0 → jv_J x G nL Q M k n (pc + 3) lv st) : jv_J x G nL Q M k n pc lv (.int (nI d - nI 1) :: st) :=
  jv_if_lt tgt X dd ht (fun h => kt (Classical.byContradiction fun z => by rw [pk_sub (by omega : 1 ≤ d)] at h; exact nI_pos (by omega) h)) (fun h => kf (fun z => h (by rw [z]; decide)))
theorem jq_icmp_eq {d : Nat} {off : Int} (tgt : Nat) (X : jv_C x G y cc nL ret fr mc ms lo) (dd : decode cc pc = .ok (.if_icmp .eq off, 3)) (ht : (pc : Int) + off = (tgt : Int)) (hd : d < 2 ^ 31) (kt : d = 0 → jv_J x G nL Q M k n tgt lv st) (kf : ¬ d = 0 → jv_J x G nL Q M k n (pc + 3) lv st) : jv_J x G nL Q M k n pc lv (.int (-1) :: .int (nI d - nI 1) :: st) :=
  jv_icmp_eq tgt X dd ht (fun h => kt ((ni_d1 hd).mp h)) (fun h => kf (fun z => h ((ni_d1 hd).mpr z)))
theorem jq_icmp_ne {d : Nat} {off : Int} (tgt : Nat) (X : jv_C x G y cc nL ret fr mc ms lo) (dd : decode cc pc = .ok (.if_icmp .ne off, 3)) (ht : (pc : Int) + off = (tgt : Int)) (hd : d < 2 ^ 31) (kt : ¬ d = 0 → jv_J x G nL Q M k n tgt lv st) (kf : d = 0 → jv_J x G nL Q M k n (pc + 3) lv st) : jv_J x G nL Q M k n pc lv (.int (-1) :: .int (nI d - nI 1) :: st) :=
  jv_icmp_ne tgt X dd ht (fun h => kt (fun z => h ((ni_d1 hd).mpr z))) (fun h => kf ((ni_d1 hd).mp h))
theorem jv_lcmp {u v : Int64} (X : jv_C x G y cc nL ret fr mc ms lo) (d : decode cc pc = .ok (.lcmp, 1)) (kk : jv_J x G nL Q M k n (pc + 1) lv (.int (lg_cmp u v) :: st)) : jv_J x G nL Q M k n pc lv (.long v :: .long u :: st) := fun H locs ls hP hS hl => W.lcmp X.exec X.code d (kk H locs ls hP hS hl)
theorem jc_if_ne {a b : Nat} {off : Int} (tgt : Nat) (X : jv_C x G y cc nL ret fr mc ms lo) (d : decode cc pc = .ok (.ifCond .ne off, 3)) (ht : (pc : Int) + off = (tgt : Int)) (ha : a < 2 ^ 63) (hb : b < 2 ^ 63) (kt : ¬ a = b → jv_J x G nL Q M k n tgt lv st) (kf : a = b → jv_J x G nL Q M k n (pc + 3) lv st) : jv_J x G nL Q M k n pc lv (.int (lg_cmp (lN a) (lN b)) :: st) :=
  jv_if_ne tgt X d ht (fun h => kt (fun z => h (lg_cmp0.mpr (by rw [z])))) (fun h => kf ((pk_lEQ ha hb).mp (lg_cmp0.mp h)))
theorem jc_if_eq {a b : Nat} {off : Int} (tgt : Nat) (X : jv_C x G y cc nL ret fr mc ms lo) (d : decode cc pc = .ok (.ifCond .eq off, 3)) (ht : (pc : Int) + off = (tgt : Int)) (ha : a < 2 ^ 63) (hb : b < 2 ^ 63) (kt : a = b → jv_J x G nL Q M k n tgt lv st) (kf : ¬ a = b → jv_J x G nL Q M k n (pc + 3) lv st) : jv_J x G nL Q M k n pc lv (.int (lg_cmp (lN a) (lN b)) :: st) :=
  jv_if_eq tgt X d ht (fun h => kt ((pk_lEQ ha hb).mp (lg_cmp0.mp h))) (fun h => kf (fun z => h (lg_cmp0.mpr (by rw [z]))))
theorem bI_inj {a b : Bool} : bI a = bI b ↔ a = b := by cases a <;> cases b <;> simp [bI]
theorem jbb_icmp_eq {a b : Bool} {off : Int} (tgt : Nat) (X : jv_C x G y cc nL ret fr mc ms lo) (dd : decode cc pc = .ok (.if_icmp .eq off, 3)) (ht : (pc : Int) + off = (tgt : Int)) (kt : a = b → jv_J x G nL Q M k n tgt lv st) (kf : ¬ a = b → jv_J x G nL Q M k n (pc + 3) lv st) : jv_J x G nL Q M k n pc lv (.int (bI b) :: .int (bI a) :: st) :=
  jv_icmp_eq tgt X dd ht (fun h => kt (bI_inj.mp h)) (fun h => kf (fun z => h (bI_inj.mpr z)))
theorem jbb_icmp_ne {a b : Bool} {off : Int} (tgt : Nat) (X : jv_C x G y cc nL ret fr mc ms lo) (dd : decode cc pc = .ok (.if_icmp .ne off, 3)) (ht : (pc : Int) + off = (tgt : Int)) (kt : ¬ a = b → jv_J x G nL Q M k n tgt lv st) (kf : a = b → jv_J x G nL Q M k n (pc + 3) lv st) : jv_J x G nL Q M k n pc lv (.int (bI b) :: .int (bI a) :: st) :=
  jv_icmp_ne tgt X dd ht (fun h => kt (fun z => h (bI_inj.mpr z))) (fun h => kf (bI_inj.mp h))
theorem ni_eqm {b d : Nat} (hb : b < 2 ^ 30) (hd : d < 2 ^ 30) : nI b = nI d - nI 1 ↔ b + 1 = d := by
  rcases Nat.eq_zero_or_pos d with rfl | h0
  · constructor
    · intro e
      have := congrArg Int32.toInt e
      rw [nI_toInt (by omega)] at this
      have h2 : (nI 0 - nI 1).toInt = -1 := by decide
      omega
    · intro e; omega
  · rw [pk_sub h0, nI_eq (by omega) (by omega)]
    omega
theorem jnm_icmp_ne {b d : Nat} {off : Int} (tgt : Nat) (X : jv_C x G y cc nL ret fr mc ms lo) (dd : decode cc pc = .ok (.if_icmp .ne off, 3)) (ht : (pc : Int) + off = (tgt : Int)) (hb : b < 2 ^ 30) (hd : d < 2 ^ 30) (kt : ¬ b + 1 = d → jv_J x G nL Q M k n tgt lv st) (kf : b + 1 = d → jv_J x G nL Q M k n (pc + 3) lv st) : jv_J x G nL Q M k n pc lv (.int (nI d - nI 1) :: .int (nI b) :: st) :=
  jv_icmp_ne tgt X dd ht (fun h => kt (fun z => h ((ni_eqm hb hd).mpr z))) (fun h => kf ((ni_eqm hb hd).mp h))
theorem jb_if_eq {b : Bool} {off : Int} (tgt : Nat) (X : jv_C x G y cc nL ret fr mc ms lo) (d : decode cc pc = .ok (.ifCond .eq off, 3)) (ht : (pc : Int) + off = (tgt : Int)) (kt : b = false → jv_J x G nL Q M k n tgt lv st) (kf : b = true → jv_J x G nL Q M k n (pc + 3) lv st) : jv_J x G nL Q M k n pc lv (.int (bI b) :: st) :=
  jv_if_eq tgt X d ht (fun h => kt (bI_e0.mp h)) (fun h => kf (by cases b; exact absurd rfl h; rfl))
theorem jb_if_ne {b : Bool} {off : Int} (tgt : Nat) (X : jv_C x G y cc nL ret fr mc ms lo) (d : decode cc pc = .ok (.ifCond .ne off, 3)) (ht : (pc : Int) + off = (tgt : Int)) (kt : b = true → jv_J x G nL Q M k n tgt lv st) (kf : b = false → jv_J x G nL Q M k n (pc + 3) lv st) : jv_J x G nL Q M k n pc lv (.int (bI b) :: st) :=
  jv_if_ne tgt X d ht (fun h => kt (by cases b; exact absurd rfl h; rfl)) (fun h => kf (bI_e0.mp h))
end MD
