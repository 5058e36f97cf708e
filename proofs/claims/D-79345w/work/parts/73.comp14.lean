/-! trailing zeros -/
set_option maxRecDepth 100000
theorem nz_ex : ∀ m : Nat, ¬ m = 0 → ∃ t c, m = 2 ^ t * (2 * c + 1) := by
  intro m
  induction m using Nat.strongRecOn with
  | ind m ih =>
    intro h
    by_cases h2 : m % 2 = 1
    · exact ⟨0, m / 2, by rw [Nat.pow_zero]; omega⟩
    · obtain ⟨t, c, e⟩ := ih (m / 2) (by omega) (by omega)
      refine ⟨t + 1, c, ?_⟩
      rw [Nat.pow_succ, Nat.mul_comm (2 ^ t) 2, Nat.mul_assoc, ← e]
      omega
theorem nz_t {m t c k : Nat} (hm : m = 2 ^ t * (2 * c + 1)) (h : m < 2 ^ k) : t < k := by
  refine Nat.lt_of_not_le fun z => ?_
  have h1 : 2 ^ k ≤ 2 ^ t := Nat.pow_le_pow_right (by decide) z
  have h2 : 2 ^ t * 1 ≤ 2 ^ t * (2 * c + 1) := Nat.mul_le_mul_left _ (by omega)
  omega
theorem nz_p {m t c : Nat} (hm : m = 2 ^ t * (2 * c + 1)) : 1 ≤ m := by
  have h2 : 2 ^ t * 1 ≤ 2 ^ t * (2 * c + 1) := Nat.mul_le_mul_left _ (by omega)
  have := Nat.two_pow_pos t
  omega
theorem nz_m {m t c : Nat} (hm : m = 2 ^ t * (2 * c + 1)) : m - 1 = 2 ^ t * (2 * c) + (2 ^ t - 1) := by
  have := Nat.two_pow_pos t
  rw [hm, Nat.mul_add]
  omega
theorem nz_bit {m t c : Nat} (hm : m = 2 ^ t * (2 * c + 1)) (j : Nat) : ((!m.testBit j) && (m - 1).testBit j) = decide (j < t) := by
  have hp := Nat.two_pow_pos t
  have e1 : m = 2 ^ t * (2 * c + 1) + 0 := hm
  rw [nz_m hm, Nat.testBit_two_pow_mul_add _ (by omega)]
  conv => lhs; rw [e1]
  rw [Nat.testBit_two_pow_mul_add _ hp]
  by_cases hj : j < t
  · rw [if_pos hj, if_pos hj, Nat.testBit_two_pow_sub_one]
    simp [hj]
  · rw [if_neg hj, if_neg hj]
    rcases Nat.eq_zero_or_pos (j - t) with e | e
    · rw [e]
      simp [hj, Nat.testBit_zero]
    · obtain ⟨i, hi⟩ : ∃ i, j - t = i + 1 := ⟨j - t - 1, by omega⟩
      rw [hi, Nat.testBit_succ, Nat.testBit_succ, show (2 * c + 1) / 2 = 2 * c / 2 by omega]
      simp [hj]
theorem nz_and {m t c : Nat} (hm : m = 2 ^ t * (2 * c + 1)) (ht : t < 32) : (nI m ^^^ (-1)) &&& nI (m - 1) = nI (2 ^ t - 1) := by
  apply Int32.toBitVec_inj.mp
  show (BitVec.ofNat 32 m ^^^ BitVec.allOnes 32) &&& BitVec.ofNat 32 (m - 1) = BitVec.ofNat 32 (2 ^ t - 1)
  apply BitVec.eq_of_getLsbD_eq
  intro j hj
  have h := nz_bit hm j
  rw [BitVec.getLsbD_and, BitVec.getLsbD_xor, BitVec.getLsbD_allOnes, BitVec.getLsbD_ofNat, BitVec.getLsbD_ofNat, BitVec.getLsbD_ofNat, Nat.testBit_two_pow_sub_one, ← h]
  simp [hj]
theorem nz_b : ∀ t, t < 32 → 2 ^ t - 1 < 2 ^ 31 := by decide +kernel
theorem nz_0 : ∀ t, t < 32 → 2 ^ t - 1 = 0 → (2 ^ t - 1) &&& 32 = t := by decide +kernel
theorem nz_u {n k : Nat} (hn : n < 2 ^ 31) (hk : k < 32) : ((nI n).toUInt32 >>> ((nI k).toUInt32 &&& Int32.toUInt32 31)).toInt32 = nI (n / 2 ^ k) := by
  have e : (nI k).toUInt32 &&& Int32.toUInt32 31 = UInt32.ofNat k := by
    have : ∀ k, k < 32 → (nI k).toUInt32 &&& Int32.toUInt32 31 = UInt32.ofNat k := by decide +kernel
    exact this k hk
  rw [e]
  apply Int32.toBitVec_inj.mp
  apply BitVec.eq_of_toNat_eq
  show ((nI n).toUInt32 >>> UInt32.ofNat k).toNat = (BitVec.ofNat 32 (n / 2 ^ k)).toNat
  have h1 : (UInt32.ofNat k).toNat = k := by
    show (BitVec.ofNat 32 k).toNat = k
    rw [BitVec.toNat_ofNat, Nat.mod_eq_of_lt (by omega)]
  have h2 : (nI n).toUInt32.toNat = n := by
    show (BitVec.ofNat 32 n).toNat = n
    rw [BitVec.toNat_ofNat, Nat.mod_eq_of_lt (by omega)]
  rw [UInt32.toNat_shiftRight, h1, h2, BitVec.toNat_ofNat, Nat.mod_eq_of_lt hk, Nat.shiftRight_eq_div_pow, Nat.mod_eq_of_lt (Nat.lt_of_le_of_lt (Nat.div_le_self _ _) (by omega))]
theorem nz_32 {m : Nat} (h : nI m = 0) : m % 2 ^ 32 = 0 := by
  have h1 := congrArg (fun z : Int32 => z.toBitVec.toNat) h
  exact h1
theorem nz_hi {m t c : Nat} (hm : m = 2 ^ t * (2 * c + 1)) (h : m % 2 ^ 32 = 0) : 32 ≤ t ∧ m / 2 ^ 32 = 2 ^ (t - 32) * (2 * c + 1) := by
  have ht : 32 ≤ t := by
    refine Nat.le_of_not_lt fun z => ?_
    have e : m = 2 ^ t * (2 * c + 1) + 0 := hm
    have h1 : m.testBit t = true := by
      rw [e, Nat.testBit_two_pow_mul_add _ (Nat.two_pow_pos t), if_neg (Nat.lt_irrefl _), Nat.sub_self, Nat.testBit_zero]
      simp
    have h2 : (m % 2 ^ 32).testBit t = m.testBit t := by rw [Nat.testBit_mod_two_pow]; simp [z]
    rw [h, h1] at h2
    rw [Nat.zero_testBit] at h2
    cases h2
  refine ⟨ht, ?_⟩
  rw [hm, show 2 ^ t = 2 ^ 32 * 2 ^ (t - 32) by rw [← Nat.pow_add]; congr 1; omega, Nat.mul_assoc]
  exact Nat.mul_div_cancel_left _ (by decide)
theorem nz_lo {m t c : Nat} (hm : m = 2 ^ t * (2 * c + 1)) (h : ¬ nI m = 0) : t < 32 := by
  refine Nat.lt_of_not_le fun z => h ?_
  have e : m = 2 ^ 32 * (2 ^ (t - 32) * (2 * c + 1)) := by
    rw [hm, show 2 ^ t = 2 ^ 32 * 2 ^ (t - 32) by rw [← Nat.pow_add]; congr 1; omega, Nat.mul_assoc]
  apply Int32.toBitVec_inj.mp
  apply BitVec.eq_of_toNat_eq
  show (BitVec.ofNat 32 m).toNat = 0
  rw [BitVec.toNat_ofNat, e, Nat.mul_mod_right]
theorem jv_ldcW {x : jv_X} {G : jv_G} {y : MethodName} {cc : ByteArray} {nL fr mc ms lo : Nat} {ret : Option FieldType} {Q : State → Prop} {M : jv_M} {k n pc : Nat} {lv : List (Nat × Value)} {st : List Value} {i : Nat} {v : Int32} (X : jv_C x G y cc nL ret fr mc ms lo) (d : decode cc pc = .ok (.ldc_w i, 3)) (hq : Cond.constant y.cls i v ∈ lw_all)
    (kk : jv_J x G nL Q M k n (pc + 3) lv (.int v :: st)) : jv_J x G nL Q M k n pc lv st := fun H locs ls hP hS hl => lv_ldcw X.exec X.code X.own (X.hts _ hq) d (kk H locs ls hP hS hl)
theorem hd_J15_numberOfTrailingZeros : jv_dd yJ15_numberOfTrailingZeros 1 := by unfold jv_dd; decide +kernel
theorem nzl_0 : ∀ t, t < 32 → (0 < 2 ^ t - 1 ∧ (2 ^ t - 1) ≤ 65536 ∧ (2 ^ t - 1) ≤ 256 ∧ (2 ^ t - 1) ≤ 16 ∧ (2 ^ t - 1) ≤ 4) → 1 + ((2 ^ t - 1) / 2 ^ 1) = t := by decide +kernel
theorem nzl_1 : ∀ t, t < 32 → (0 < 2 ^ t - 1 ∧ (2 ^ t - 1) ≤ 65536 ∧ (2 ^ t - 1) ≤ 256 ∧ (2 ^ t - 1) ≤ 16 ∧ 4 < (2 ^ t - 1)) → (1 + 2) + (((2 ^ t - 1) / 2 ^ 2) / 2 ^ 1) = t := by decide +kernel
theorem nzl_2 : ∀ t, t < 32 → (0 < 2 ^ t - 1 ∧ (2 ^ t - 1) ≤ 65536 ∧ (2 ^ t - 1) ≤ 256 ∧ 16 < (2 ^ t - 1) ∧ ((2 ^ t - 1) / 2 ^ 4) ≤ 4) → (1 + 4) + (((2 ^ t - 1) / 2 ^ 4) / 2 ^ 1) = t := by decide +kernel
theorem nzl_3 : ∀ t, t < 32 → (0 < 2 ^ t - 1 ∧ (2 ^ t - 1) ≤ 65536 ∧ (2 ^ t - 1) ≤ 256 ∧ 16 < (2 ^ t - 1) ∧ 4 < ((2 ^ t - 1) / 2 ^ 4)) → ((1 + 4) + 2) + ((((2 ^ t - 1) / 2 ^ 4) / 2 ^ 2) / 2 ^ 1) = t := by decide +kernel
theorem nzl_4 : ∀ t, t < 32 → (0 < 2 ^ t - 1 ∧ (2 ^ t - 1) ≤ 65536 ∧ 256 < (2 ^ t - 1) ∧ ((2 ^ t - 1) / 2 ^ 8) ≤ 16 ∧ ((2 ^ t - 1) / 2 ^ 8) ≤ 4) → (1 + 8) + (((2 ^ t - 1) / 2 ^ 8) / 2 ^ 1) = t := by decide +kernel
theorem nzl_5 : ∀ t, t < 32 → (0 < 2 ^ t - 1 ∧ (2 ^ t - 1) ≤ 65536 ∧ 256 < (2 ^ t - 1) ∧ ((2 ^ t - 1) / 2 ^ 8) ≤ 16 ∧ 4 < ((2 ^ t - 1) / 2 ^ 8)) → ((1 + 8) + 2) + ((((2 ^ t - 1) / 2 ^ 8) / 2 ^ 2) / 2 ^ 1) = t := by decide +kernel
theorem nzl_6 : ∀ t, t < 32 → (0 < 2 ^ t - 1 ∧ (2 ^ t - 1) ≤ 65536 ∧ 256 < (2 ^ t - 1) ∧ 16 < ((2 ^ t - 1) / 2 ^ 8) ∧ (((2 ^ t - 1) / 2 ^ 8) / 2 ^ 4) ≤ 4) → ((1 + 8) + 4) + ((((2 ^ t - 1) / 2 ^ 8) / 2 ^ 4) / 2 ^ 1) = t := by decide +kernel
theorem nzl_7 : ∀ t, t < 32 → (0 < 2 ^ t - 1 ∧ (2 ^ t - 1) ≤ 65536 ∧ 256 < (2 ^ t - 1) ∧ 16 < ((2 ^ t - 1) / 2 ^ 8) ∧ 4 < (((2 ^ t - 1) / 2 ^ 8) / 2 ^ 4)) → (((1 + 8) + 4) + 2) + (((((2 ^ t - 1) / 2 ^ 8) / 2 ^ 4) / 2 ^ 2) / 2 ^ 1) = t := by decide +kernel
theorem nzl_8 : ∀ t, t < 32 → (0 < 2 ^ t - 1 ∧ 65536 < (2 ^ t - 1) ∧ ((2 ^ t - 1) / 2 ^ 16) ≤ 256 ∧ ((2 ^ t - 1) / 2 ^ 16) ≤ 16 ∧ ((2 ^ t - 1) / 2 ^ 16) ≤ 4) → (1 + 16) + (((2 ^ t - 1) / 2 ^ 16) / 2 ^ 1) = t := by decide +kernel
theorem nzl_9 : ∀ t, t < 32 → (0 < 2 ^ t - 1 ∧ 65536 < (2 ^ t - 1) ∧ ((2 ^ t - 1) / 2 ^ 16) ≤ 256 ∧ ((2 ^ t - 1) / 2 ^ 16) ≤ 16 ∧ 4 < ((2 ^ t - 1) / 2 ^ 16)) → ((1 + 16) + 2) + ((((2 ^ t - 1) / 2 ^ 16) / 2 ^ 2) / 2 ^ 1) = t := by decide +kernel
theorem nzl_10 : ∀ t, t < 32 → (0 < 2 ^ t - 1 ∧ 65536 < (2 ^ t - 1) ∧ ((2 ^ t - 1) / 2 ^ 16) ≤ 256 ∧ 16 < ((2 ^ t - 1) / 2 ^ 16) ∧ (((2 ^ t - 1) / 2 ^ 16) / 2 ^ 4) ≤ 4) → ((1 + 16) + 4) + ((((2 ^ t - 1) / 2 ^ 16) / 2 ^ 4) / 2 ^ 1) = t := by decide +kernel
theorem nzl_11 : ∀ t, t < 32 → (0 < 2 ^ t - 1 ∧ 65536 < (2 ^ t - 1) ∧ ((2 ^ t - 1) / 2 ^ 16) ≤ 256 ∧ 16 < ((2 ^ t - 1) / 2 ^ 16) ∧ 4 < (((2 ^ t - 1) / 2 ^ 16) / 2 ^ 4)) → (((1 + 16) + 4) + 2) + (((((2 ^ t - 1) / 2 ^ 16) / 2 ^ 4) / 2 ^ 2) / 2 ^ 1) = t := by decide +kernel
theorem nzl_12 : ∀ t, t < 32 → (0 < 2 ^ t - 1 ∧ 65536 < (2 ^ t - 1) ∧ 256 < ((2 ^ t - 1) / 2 ^ 16) ∧ (((2 ^ t - 1) / 2 ^ 16) / 2 ^ 8) ≤ 16 ∧ (((2 ^ t - 1) / 2 ^ 16) / 2 ^ 8) ≤ 4) → ((1 + 16) + 8) + ((((2 ^ t - 1) / 2 ^ 16) / 2 ^ 8) / 2 ^ 1) = t := by decide +kernel
theorem nzl_13 : ∀ t, t < 32 → (0 < 2 ^ t - 1 ∧ 65536 < (2 ^ t - 1) ∧ 256 < ((2 ^ t - 1) / 2 ^ 16) ∧ (((2 ^ t - 1) / 2 ^ 16) / 2 ^ 8) ≤ 16 ∧ 4 < (((2 ^ t - 1) / 2 ^ 16) / 2 ^ 8)) → (((1 + 16) + 8) + 2) + (((((2 ^ t - 1) / 2 ^ 16) / 2 ^ 8) / 2 ^ 2) / 2 ^ 1) = t := by decide +kernel
theorem nzl_14 : ∀ t, t < 32 → (0 < 2 ^ t - 1 ∧ 65536 < (2 ^ t - 1) ∧ 256 < ((2 ^ t - 1) / 2 ^ 16) ∧ 16 < (((2 ^ t - 1) / 2 ^ 16) / 2 ^ 8) ∧ ((((2 ^ t - 1) / 2 ^ 16) / 2 ^ 8) / 2 ^ 4) ≤ 4) → (((1 + 16) + 8) + 4) + (((((2 ^ t - 1) / 2 ^ 16) / 2 ^ 8) / 2 ^ 4) / 2 ^ 1) = t := by decide +kernel
theorem nzl_15 : ∀ t, t < 32 → (0 < 2 ^ t - 1 ∧ 65536 < (2 ^ t - 1) ∧ 256 < ((2 ^ t - 1) / 2 ^ 16) ∧ 16 < (((2 ^ t - 1) / 2 ^ 16) / 2 ^ 8) ∧ 4 < ((((2 ^ t - 1) / 2 ^ 16) / 2 ^ 8) / 2 ^ 4)) → ((((1 + 16) + 8) + 4) + 2) + ((((((2 ^ t - 1) / 2 ^ 16) / 2 ^ 8) / 2 ^ 4) / 2 ^ 2) / 2 ^ 1) = t := by decide +kernel
set_option maxHeartbeats 4000000 in
theorem c_J15_numberOfTrailingZeros {l : Launch} {G : jv_G} {M : jv_M} (m : Nat) (t : Nat) (c : Nat) (hm : m = 2 ^ t * (2 * c + 1)) (ht : t < 32) : jv_Ct G l yJ15_numberOfTrailingZeros cJ15_numberOfTrailingZeros 2 (some .int) 0 0 0 0 [.int (nI m)] M (jv_qi G (jv_pi (nI t) M)) := by
  refine jv_Ct.of (lv := [(0, .int (nI m))]) (by decide) (Nat.le_of_ble_eq_true rfl) rfl ?_
  intro x Q_ hl_ hQ X
  subst hl_
  have hb_ := nz_b t ht
  have hm1_ := nz_p hm
  refine jv_iload_n X dJ15_numberOfTrailingZeros_0 0 rfl ?_
  refine jv_iconst (v := (-1)) X dJ15_numberOfTrailingZeros_1 rfl ?_
  refine jv_ixor (w := (nI m) ^^^ (-1)) X dJ15_numberOfTrailingZeros_2 rfl ?_
  refine jv_iload_n X dJ15_numberOfTrailingZeros_3 0 rfl ?_
  refine jv_iconst (v := nI 1) X dJ15_numberOfTrailingZeros_4 rfl ?_
  refine jv_isub (w := nI (m - 1)) X dJ15_numberOfTrailingZeros_5 (pk_sub hm1_) ?_
  refine jv_iand (w := nI (2 ^ t - 1)) X dJ15_numberOfTrailingZeros_6 (nz_and hm ht) ?_
  refine jv_istore_n (lv' := [(0, .int (nI (2 ^ t - 1)))]) X dJ15_numberOfTrailingZeros_7 rfl (by decide) rfl ?_
  refine jv_iload_n X dJ15_numberOfTrailingZeros_8 0 rfl ?_
  refine jn_if_gt 17 X dJ15_numberOfTrailingZeros_9 (by decide) (by omega) (fun c9 => ?_) (fun c9 => ?_)
  · skip
    refine jv_iconst (v := nI 1) X dJ15_numberOfTrailingZeros_17 rfl ?_
    refine jv_istore_n (lv' := [(1, .int (nI 1)), (0, .int (nI (2 ^ t - 1)))]) X dJ15_numberOfTrailingZeros_18 rfl (by decide) rfl ?_
    refine jv_iload_n X dJ15_numberOfTrailingZeros_19 1 rfl ?_
    refine jv_ldcW (v := nI 65536) X dJ15_numberOfTrailingZeros_20 q1072 ?_
    refine jn_icmp_le 34 X dJ15_numberOfTrailingZeros_23 (by decide) (by omega) (by decide) (fun c23 => ?_) (fun c23 => ?_)
    · skip
      refine jv_iload_n X dJ15_numberOfTrailingZeros_34 1 rfl ?_
      refine jv_sipush (v := nI 256) X dJ15_numberOfTrailingZeros_35 rfl ?_
      refine jn_icmp_le 49 X dJ15_numberOfTrailingZeros_38 (by decide) (by omega) (by decide) (fun c38 => ?_) (fun c38 => ?_)
      · skip
        refine jv_iload_n X dJ15_numberOfTrailingZeros_49 1 rfl ?_
        refine jv_bipush (v := nI 16) X dJ15_numberOfTrailingZeros_50 rfl ?_
        refine jn_icmp_le 62 X dJ15_numberOfTrailingZeros_52 (by decide) (by omega) (by decide) (fun c52 => ?_) (fun c52 => ?_)
        · skip
          refine jv_iload_n X dJ15_numberOfTrailingZeros_62 1 rfl ?_
          refine jv_iconst (v := nI 4) X dJ15_numberOfTrailingZeros_63 rfl ?_
          refine jn_icmp_le 74 X dJ15_numberOfTrailingZeros_64 (by decide) (by omega) (by decide) (fun c64 => ?_) (fun c64 => ?_)
          · skip
            refine jv_iload_n X dJ15_numberOfTrailingZeros_74 0 rfl ?_
            refine jv_iload_n X dJ15_numberOfTrailingZeros_75 1 rfl ?_
            refine jv_iconst (v := nI 1) X dJ15_numberOfTrailingZeros_76 rfl ?_
            refine jv_iushr (w := nI ((2 ^ t - 1) / 2 ^ 1)) X dJ15_numberOfTrailingZeros_77 (nz_u (by omega) (by decide)) ?_
            refine jv_iadd (w := nI (1 + ((2 ^ t - 1) / 2 ^ 1))) X dJ15_numberOfTrailingZeros_78 (nI_add _ _) ?_
            exact jv_iret (v := nI (1 + ((2 ^ t - 1) / 2 ^ 1))) X dJ15_numberOfTrailingZeros_79 rfl hQ (Nat.le_of_ble_eq_true rfl) (Nat.le_of_ble_eq_true rfl) ⟨(congrArg nI (nzl_0 t ht ⟨c9, c23, c38, c52, c64⟩)), rfl⟩
          · skip
            refine jv_iinc (v := nI (1 + 2)) (lv' := [(1, .int (nI (1 + 2))), (0, .int (nI (2 ^ t - 1)))]) X dJ15_numberOfTrailingZeros_67 0 rfl (nI_add _ _) (by decide) rfl ?_
            refine jv_iload_n X dJ15_numberOfTrailingZeros_70 1 rfl ?_
            refine jv_iconst (v := nI 2) X dJ15_numberOfTrailingZeros_71 rfl ?_
            refine jv_iushr (w := nI ((2 ^ t - 1) / 2 ^ 2)) X dJ15_numberOfTrailingZeros_72 (nz_u (by omega) (by decide)) ?_
            refine jv_istore_n (lv' := [(0, .int (nI ((2 ^ t - 1) / 2 ^ 2))), (1, .int (nI (1 + 2)))]) X dJ15_numberOfTrailingZeros_73 rfl (by decide) rfl ?_
            refine jv_iload_n X dJ15_numberOfTrailingZeros_74 1 rfl ?_
            refine jv_iload_n X dJ15_numberOfTrailingZeros_75 0 rfl ?_
            refine jv_iconst (v := nI 1) X dJ15_numberOfTrailingZeros_76 rfl ?_
            refine jv_iushr (w := nI (((2 ^ t - 1) / 2 ^ 2) / 2 ^ 1)) X dJ15_numberOfTrailingZeros_77 (nz_u (by omega) (by decide)) ?_
            refine jv_iadd (w := nI ((1 + 2) + (((2 ^ t - 1) / 2 ^ 2) / 2 ^ 1))) X dJ15_numberOfTrailingZeros_78 (nI_add _ _) ?_
            exact jv_iret (v := nI ((1 + 2) + (((2 ^ t - 1) / 2 ^ 2) / 2 ^ 1))) X dJ15_numberOfTrailingZeros_79 rfl hQ (Nat.le_of_ble_eq_true rfl) (Nat.le_of_ble_eq_true rfl) ⟨(congrArg nI (nzl_1 t ht ⟨c9, c23, c38, c52, c64⟩)), rfl⟩
        · skip
          refine jv_iinc (v := nI (1 + 4)) (lv' := [(1, .int (nI (1 + 4))), (0, .int (nI (2 ^ t - 1)))]) X dJ15_numberOfTrailingZeros_55 0 rfl (nI_add _ _) (by decide) rfl ?_
          refine jv_iload_n X dJ15_numberOfTrailingZeros_58 1 rfl ?_
          refine jv_iconst (v := nI 4) X dJ15_numberOfTrailingZeros_59 rfl ?_
          refine jv_iushr (w := nI ((2 ^ t - 1) / 2 ^ 4)) X dJ15_numberOfTrailingZeros_60 (nz_u (by omega) (by decide)) ?_
          refine jv_istore_n (lv' := [(0, .int (nI ((2 ^ t - 1) / 2 ^ 4))), (1, .int (nI (1 + 4)))]) X dJ15_numberOfTrailingZeros_61 rfl (by decide) rfl ?_
          refine jv_iload_n X dJ15_numberOfTrailingZeros_62 0 rfl ?_
          refine jv_iconst (v := nI 4) X dJ15_numberOfTrailingZeros_63 rfl ?_
          refine jn_icmp_le 74 X dJ15_numberOfTrailingZeros_64 (by decide) (by omega) (by decide) (fun c64 => ?_) (fun c64 => ?_)
          · skip
            refine jv_iload_n X dJ15_numberOfTrailingZeros_74 1 rfl ?_
            refine jv_iload_n X dJ15_numberOfTrailingZeros_75 0 rfl ?_
            refine jv_iconst (v := nI 1) X dJ15_numberOfTrailingZeros_76 rfl ?_
            refine jv_iushr (w := nI (((2 ^ t - 1) / 2 ^ 4) / 2 ^ 1)) X dJ15_numberOfTrailingZeros_77 (nz_u (by omega) (by decide)) ?_
            refine jv_iadd (w := nI ((1 + 4) + (((2 ^ t - 1) / 2 ^ 4) / 2 ^ 1))) X dJ15_numberOfTrailingZeros_78 (nI_add _ _) ?_
            exact jv_iret (v := nI ((1 + 4) + (((2 ^ t - 1) / 2 ^ 4) / 2 ^ 1))) X dJ15_numberOfTrailingZeros_79 rfl hQ (Nat.le_of_ble_eq_true rfl) (Nat.le_of_ble_eq_true rfl) ⟨(congrArg nI (nzl_2 t ht ⟨c9, c23, c38, c52, c64⟩)), rfl⟩
          · skip
            refine jv_iinc (v := nI ((1 + 4) + 2)) (lv' := [(1, .int (nI ((1 + 4) + 2))), (0, .int (nI ((2 ^ t - 1) / 2 ^ 4)))]) X dJ15_numberOfTrailingZeros_67 1 rfl (nI_add _ _) (by decide) rfl ?_
            refine jv_iload_n X dJ15_numberOfTrailingZeros_70 1 rfl ?_
            refine jv_iconst (v := nI 2) X dJ15_numberOfTrailingZeros_71 rfl ?_
            refine jv_iushr (w := nI (((2 ^ t - 1) / 2 ^ 4) / 2 ^ 2)) X dJ15_numberOfTrailingZeros_72 (nz_u (by omega) (by decide)) ?_
            refine jv_istore_n (lv' := [(0, .int (nI (((2 ^ t - 1) / 2 ^ 4) / 2 ^ 2))), (1, .int (nI ((1 + 4) + 2)))]) X dJ15_numberOfTrailingZeros_73 rfl (by decide) rfl ?_
            refine jv_iload_n X dJ15_numberOfTrailingZeros_74 1 rfl ?_
            refine jv_iload_n X dJ15_numberOfTrailingZeros_75 0 rfl ?_
            refine jv_iconst (v := nI 1) X dJ15_numberOfTrailingZeros_76 rfl ?_
            refine jv_iushr (w := nI ((((2 ^ t - 1) / 2 ^ 4) / 2 ^ 2) / 2 ^ 1)) X dJ15_numberOfTrailingZeros_77 (nz_u (by omega) (by decide)) ?_
            refine jv_iadd (w := nI (((1 + 4) + 2) + ((((2 ^ t - 1) / 2 ^ 4) / 2 ^ 2) / 2 ^ 1))) X dJ15_numberOfTrailingZeros_78 (nI_add _ _) ?_
            exact jv_iret (v := nI (((1 + 4) + 2) + ((((2 ^ t - 1) / 2 ^ 4) / 2 ^ 2) / 2 ^ 1))) X dJ15_numberOfTrailingZeros_79 rfl hQ (Nat.le_of_ble_eq_true rfl) (Nat.le_of_ble_eq_true rfl) ⟨(congrArg nI (nzl_3 t ht ⟨c9, c23, c38, c52, c64⟩)), rfl⟩
      · skip
        refine jv_iinc (v := nI (1 + 8)) (lv' := [(1, .int (nI (1 + 8))), (0, .int (nI (2 ^ t - 1)))]) X dJ15_numberOfTrailingZeros_41 0 rfl (nI_add _ _) (by decide) rfl ?_
        refine jv_iload_n X dJ15_numberOfTrailingZeros_44 1 rfl ?_
        refine jv_bipush (v := nI 8) X dJ15_numberOfTrailingZeros_45 rfl ?_
        refine jv_iushr (w := nI ((2 ^ t - 1) / 2 ^ 8)) X dJ15_numberOfTrailingZeros_47 (nz_u (by omega) (by decide)) ?_
        refine jv_istore_n (lv' := [(0, .int (nI ((2 ^ t - 1) / 2 ^ 8))), (1, .int (nI (1 + 8)))]) X dJ15_numberOfTrailingZeros_48 rfl (by decide) rfl ?_
        refine jv_iload_n X dJ15_numberOfTrailingZeros_49 0 rfl ?_
        refine jv_bipush (v := nI 16) X dJ15_numberOfTrailingZeros_50 rfl ?_
        refine jn_icmp_le 62 X dJ15_numberOfTrailingZeros_52 (by decide) (by omega) (by decide) (fun c52 => ?_) (fun c52 => ?_)
        · skip
          refine jv_iload_n X dJ15_numberOfTrailingZeros_62 0 rfl ?_
          refine jv_iconst (v := nI 4) X dJ15_numberOfTrailingZeros_63 rfl ?_
          refine jn_icmp_le 74 X dJ15_numberOfTrailingZeros_64 (by decide) (by omega) (by decide) (fun c64 => ?_) (fun c64 => ?_)
          · skip
            refine jv_iload_n X dJ15_numberOfTrailingZeros_74 1 rfl ?_
            refine jv_iload_n X dJ15_numberOfTrailingZeros_75 0 rfl ?_
            refine jv_iconst (v := nI 1) X dJ15_numberOfTrailingZeros_76 rfl ?_
            refine jv_iushr (w := nI (((2 ^ t - 1) / 2 ^ 8) / 2 ^ 1)) X dJ15_numberOfTrailingZeros_77 (nz_u (by omega) (by decide)) ?_
            refine jv_iadd (w := nI ((1 + 8) + (((2 ^ t - 1) / 2 ^ 8) / 2 ^ 1))) X dJ15_numberOfTrailingZeros_78 (nI_add _ _) ?_
            exact jv_iret (v := nI ((1 + 8) + (((2 ^ t - 1) / 2 ^ 8) / 2 ^ 1))) X dJ15_numberOfTrailingZeros_79 rfl hQ (Nat.le_of_ble_eq_true rfl) (Nat.le_of_ble_eq_true rfl) ⟨(congrArg nI (nzl_4 t ht ⟨c9, c23, c38, c52, c64⟩)), rfl⟩
          · skip
            refine jv_iinc (v := nI ((1 + 8) + 2)) (lv' := [(1, .int (nI ((1 + 8) + 2))), (0, .int (nI ((2 ^ t - 1) / 2 ^ 8)))]) X dJ15_numberOfTrailingZeros_67 1 rfl (nI_add _ _) (by decide) rfl ?_
            refine jv_iload_n X dJ15_numberOfTrailingZeros_70 1 rfl ?_
            refine jv_iconst (v := nI 2) X dJ15_numberOfTrailingZeros_71 rfl ?_
            refine jv_iushr (w := nI (((2 ^ t - 1) / 2 ^ 8) / 2 ^ 2)) X dJ15_numberOfTrailingZeros_72 (nz_u (by omega) (by decide)) ?_
            refine jv_istore_n (lv' := [(0, .int (nI (((2 ^ t - 1) / 2 ^ 8) / 2 ^ 2))), (1, .int (nI ((1 + 8) + 2)))]) X dJ15_numberOfTrailingZeros_73 rfl (by decide) rfl ?_
            refine jv_iload_n X dJ15_numberOfTrailingZeros_74 1 rfl ?_
            refine jv_iload_n X dJ15_numberOfTrailingZeros_75 0 rfl ?_
            refine jv_iconst (v := nI 1) X dJ15_numberOfTrailingZeros_76 rfl ?_
            refine jv_iushr (w := nI ((((2 ^ t - 1) / 2 ^ 8) / 2 ^ 2) / 2 ^ 1)) X dJ15_numberOfTrailingZeros_77 (nz_u (by omega) (by decide)) ?_
            refine jv_iadd (w := nI (((1 + 8) + 2) + ((((2 ^ t - 1) / 2 ^ 8) / 2 ^ 2) / 2 ^ 1))) X dJ15_numberOfTrailingZeros_78 (nI_add _ _) ?_
            exact jv_iret (v := nI (((1 + 8) + 2) + ((((2 ^ t - 1) / 2 ^ 8) / 2 ^ 2) / 2 ^ 1))) X dJ15_numberOfTrailingZeros_79 rfl hQ (Nat.le_of_ble_eq_true rfl) (Nat.le_of_ble_eq_true rfl) ⟨(congrArg nI (nzl_5 t ht ⟨c9, c23, c38, c52, c64⟩)), rfl⟩
        · skip
          refine jv_iinc (v := nI ((1 + 8) + 4)) (lv' := [(1, .int (nI ((1 + 8) + 4))), (0, .int (nI ((2 ^ t - 1) / 2 ^ 8)))]) X dJ15_numberOfTrailingZeros_55 1 rfl (nI_add _ _) (by decide) rfl ?_
          refine jv_iload_n X dJ15_numberOfTrailingZeros_58 1 rfl ?_
          refine jv_iconst (v := nI 4) X dJ15_numberOfTrailingZeros_59 rfl ?_
          refine jv_iushr (w := nI (((2 ^ t - 1) / 2 ^ 8) / 2 ^ 4)) X dJ15_numberOfTrailingZeros_60 (nz_u (by omega) (by decide)) ?_
          refine jv_istore_n (lv' := [(0, .int (nI (((2 ^ t - 1) / 2 ^ 8) / 2 ^ 4))), (1, .int (nI ((1 + 8) + 4)))]) X dJ15_numberOfTrailingZeros_61 rfl (by decide) rfl ?_
          refine jv_iload_n X dJ15_numberOfTrailingZeros_62 0 rfl ?_
          refine jv_iconst (v := nI 4) X dJ15_numberOfTrailingZeros_63 rfl ?_
          refine jn_icmp_le 74 X dJ15_numberOfTrailingZeros_64 (by decide) (by omega) (by decide) (fun c64 => ?_) (fun c64 => ?_)
          · skip
            refine jv_iload_n X dJ15_numberOfTrailingZeros_74 1 rfl ?_
            refine jv_iload_n X dJ15_numberOfTrailingZeros_75 0 rfl ?_
            refine jv_iconst (v := nI 1) X dJ15_numberOfTrailingZeros_76 rfl ?_
            refine jv_iushr (w := nI ((((2 ^ t - 1) / 2 ^ 8) / 2 ^ 4) / 2 ^ 1)) X dJ15_numberOfTrailingZeros_77 (nz_u (by omega) (by decide)) ?_
            refine jv_iadd (w := nI (((1 + 8) + 4) + ((((2 ^ t - 1) / 2 ^ 8) / 2 ^ 4) / 2 ^ 1))) X dJ15_numberOfTrailingZeros_78 (nI_add _ _) ?_
            exact jv_iret (v := nI (((1 + 8) + 4) + ((((2 ^ t - 1) / 2 ^ 8) / 2 ^ 4) / 2 ^ 1))) X dJ15_numberOfTrailingZeros_79 rfl hQ (Nat.le_of_ble_eq_true rfl) (Nat.le_of_ble_eq_true rfl) ⟨(congrArg nI (nzl_6 t ht ⟨c9, c23, c38, c52, c64⟩)), rfl⟩
          · skip
            refine jv_iinc (v := nI (((1 + 8) + 4) + 2)) (lv' := [(1, .int (nI (((1 + 8) + 4) + 2))), (0, .int (nI (((2 ^ t - 1) / 2 ^ 8) / 2 ^ 4)))]) X dJ15_numberOfTrailingZeros_67 1 rfl (nI_add _ _) (by decide) rfl ?_
            refine jv_iload_n X dJ15_numberOfTrailingZeros_70 1 rfl ?_
            refine jv_iconst (v := nI 2) X dJ15_numberOfTrailingZeros_71 rfl ?_
            refine jv_iushr (w := nI ((((2 ^ t - 1) / 2 ^ 8) / 2 ^ 4) / 2 ^ 2)) X dJ15_numberOfTrailingZeros_72 (nz_u (by omega) (by decide)) ?_
            refine jv_istore_n (lv' := [(0, .int (nI ((((2 ^ t - 1) / 2 ^ 8) / 2 ^ 4) / 2 ^ 2))), (1, .int (nI (((1 + 8) + 4) + 2)))]) X dJ15_numberOfTrailingZeros_73 rfl (by decide) rfl ?_
            refine jv_iload_n X dJ15_numberOfTrailingZeros_74 1 rfl ?_
            refine jv_iload_n X dJ15_numberOfTrailingZeros_75 0 rfl ?_
            refine jv_iconst (v := nI 1) X dJ15_numberOfTrailingZeros_76 rfl ?_
            refine jv_iushr (w := nI (((((2 ^ t - 1) / 2 ^ 8) / 2 ^ 4) / 2 ^ 2) / 2 ^ 1)) X dJ15_numberOfTrailingZeros_77 (nz_u (by omega) (by decide)) ?_
            refine jv_iadd (w := nI ((((1 + 8) + 4) + 2) + (((((2 ^ t - 1) / 2 ^ 8) / 2 ^ 4) / 2 ^ 2) / 2 ^ 1))) X dJ15_numberOfTrailingZeros_78 (nI_add _ _) ?_
            exact jv_iret (v := nI ((((1 + 8) + 4) + 2) + (((((2 ^ t - 1) / 2 ^ 8) / 2 ^ 4) / 2 ^ 2) / 2 ^ 1))) X dJ15_numberOfTrailingZeros_79 rfl hQ (Nat.le_of_ble_eq_true rfl) (Nat.le_of_ble_eq_true rfl) ⟨(congrArg nI (nzl_7 t ht ⟨c9, c23, c38, c52, c64⟩)), rfl⟩
    · skip
      refine jv_iinc (v := nI (1 + 16)) (lv' := [(1, .int (nI (1 + 16))), (0, .int (nI (2 ^ t - 1)))]) X dJ15_numberOfTrailingZeros_26 0 rfl (nI_add _ _) (by decide) rfl ?_
      refine jv_iload_n X dJ15_numberOfTrailingZeros_29 1 rfl ?_
      refine jv_bipush (v := nI 16) X dJ15_numberOfTrailingZeros_30 rfl ?_
      refine jv_iushr (w := nI ((2 ^ t - 1) / 2 ^ 16)) X dJ15_numberOfTrailingZeros_32 (nz_u (by omega) (by decide)) ?_
      refine jv_istore_n (lv' := [(0, .int (nI ((2 ^ t - 1) / 2 ^ 16))), (1, .int (nI (1 + 16)))]) X dJ15_numberOfTrailingZeros_33 rfl (by decide) rfl ?_
      refine jv_iload_n X dJ15_numberOfTrailingZeros_34 0 rfl ?_
      refine jv_sipush (v := nI 256) X dJ15_numberOfTrailingZeros_35 rfl ?_
      refine jn_icmp_le 49 X dJ15_numberOfTrailingZeros_38 (by decide) (by omega) (by decide) (fun c38 => ?_) (fun c38 => ?_)
      · skip
        refine jv_iload_n X dJ15_numberOfTrailingZeros_49 0 rfl ?_
        refine jv_bipush (v := nI 16) X dJ15_numberOfTrailingZeros_50 rfl ?_
        refine jn_icmp_le 62 X dJ15_numberOfTrailingZeros_52 (by decide) (by omega) (by decide) (fun c52 => ?_) (fun c52 => ?_)
        · skip
          refine jv_iload_n X dJ15_numberOfTrailingZeros_62 0 rfl ?_
          refine jv_iconst (v := nI 4) X dJ15_numberOfTrailingZeros_63 rfl ?_
          refine jn_icmp_le 74 X dJ15_numberOfTrailingZeros_64 (by decide) (by omega) (by decide) (fun c64 => ?_) (fun c64 => ?_)
          · skip
            refine jv_iload_n X dJ15_numberOfTrailingZeros_74 1 rfl ?_
            refine jv_iload_n X dJ15_numberOfTrailingZeros_75 0 rfl ?_
            refine jv_iconst (v := nI 1) X dJ15_numberOfTrailingZeros_76 rfl ?_
            refine jv_iushr (w := nI (((2 ^ t - 1) / 2 ^ 16) / 2 ^ 1)) X dJ15_numberOfTrailingZeros_77 (nz_u (by omega) (by decide)) ?_
            refine jv_iadd (w := nI ((1 + 16) + (((2 ^ t - 1) / 2 ^ 16) / 2 ^ 1))) X dJ15_numberOfTrailingZeros_78 (nI_add _ _) ?_
            exact jv_iret (v := nI ((1 + 16) + (((2 ^ t - 1) / 2 ^ 16) / 2 ^ 1))) X dJ15_numberOfTrailingZeros_79 rfl hQ (Nat.le_of_ble_eq_true rfl) (Nat.le_of_ble_eq_true rfl) ⟨(congrArg nI (nzl_8 t ht ⟨c9, c23, c38, c52, c64⟩)), rfl⟩
          · skip
            refine jv_iinc (v := nI ((1 + 16) + 2)) (lv' := [(1, .int (nI ((1 + 16) + 2))), (0, .int (nI ((2 ^ t - 1) / 2 ^ 16)))]) X dJ15_numberOfTrailingZeros_67 1 rfl (nI_add _ _) (by decide) rfl ?_
            refine jv_iload_n X dJ15_numberOfTrailingZeros_70 1 rfl ?_
            refine jv_iconst (v := nI 2) X dJ15_numberOfTrailingZeros_71 rfl ?_
            refine jv_iushr (w := nI (((2 ^ t - 1) / 2 ^ 16) / 2 ^ 2)) X dJ15_numberOfTrailingZeros_72 (nz_u (by omega) (by decide)) ?_
            refine jv_istore_n (lv' := [(0, .int (nI (((2 ^ t - 1) / 2 ^ 16) / 2 ^ 2))), (1, .int (nI ((1 + 16) + 2)))]) X dJ15_numberOfTrailingZeros_73 rfl (by decide) rfl ?_
            refine jv_iload_n X dJ15_numberOfTrailingZeros_74 1 rfl ?_
            refine jv_iload_n X dJ15_numberOfTrailingZeros_75 0 rfl ?_
            refine jv_iconst (v := nI 1) X dJ15_numberOfTrailingZeros_76 rfl ?_
            refine jv_iushr (w := nI ((((2 ^ t - 1) / 2 ^ 16) / 2 ^ 2) / 2 ^ 1)) X dJ15_numberOfTrailingZeros_77 (nz_u (by omega) (by decide)) ?_
            refine jv_iadd (w := nI (((1 + 16) + 2) + ((((2 ^ t - 1) / 2 ^ 16) / 2 ^ 2) / 2 ^ 1))) X dJ15_numberOfTrailingZeros_78 (nI_add _ _) ?_
            exact jv_iret (v := nI (((1 + 16) + 2) + ((((2 ^ t - 1) / 2 ^ 16) / 2 ^ 2) / 2 ^ 1))) X dJ15_numberOfTrailingZeros_79 rfl hQ (Nat.le_of_ble_eq_true rfl) (Nat.le_of_ble_eq_true rfl) ⟨(congrArg nI (nzl_9 t ht ⟨c9, c23, c38, c52, c64⟩)), rfl⟩
        · skip
          refine jv_iinc (v := nI ((1 + 16) + 4)) (lv' := [(1, .int (nI ((1 + 16) + 4))), (0, .int (nI ((2 ^ t - 1) / 2 ^ 16)))]) X dJ15_numberOfTrailingZeros_55 1 rfl (nI_add _ _) (by decide) rfl ?_
          refine jv_iload_n X dJ15_numberOfTrailingZeros_58 1 rfl ?_
          refine jv_iconst (v := nI 4) X dJ15_numberOfTrailingZeros_59 rfl ?_
          refine jv_iushr (w := nI (((2 ^ t - 1) / 2 ^ 16) / 2 ^ 4)) X dJ15_numberOfTrailingZeros_60 (nz_u (by omega) (by decide)) ?_
          refine jv_istore_n (lv' := [(0, .int (nI (((2 ^ t - 1) / 2 ^ 16) / 2 ^ 4))), (1, .int (nI ((1 + 16) + 4)))]) X dJ15_numberOfTrailingZeros_61 rfl (by decide) rfl ?_
          refine jv_iload_n X dJ15_numberOfTrailingZeros_62 0 rfl ?_
          refine jv_iconst (v := nI 4) X dJ15_numberOfTrailingZeros_63 rfl ?_
          refine jn_icmp_le 74 X dJ15_numberOfTrailingZeros_64 (by decide) (by omega) (by decide) (fun c64 => ?_) (fun c64 => ?_)
          · skip
            refine jv_iload_n X dJ15_numberOfTrailingZeros_74 1 rfl ?_
            refine jv_iload_n X dJ15_numberOfTrailingZeros_75 0 rfl ?_
            refine jv_iconst (v := nI 1) X dJ15_numberOfTrailingZeros_76 rfl ?_
            refine jv_iushr (w := nI ((((2 ^ t - 1) / 2 ^ 16) / 2 ^ 4) / 2 ^ 1)) X dJ15_numberOfTrailingZeros_77 (nz_u (by omega) (by decide)) ?_
            refine jv_iadd (w := nI (((1 + 16) + 4) + ((((2 ^ t - 1) / 2 ^ 16) / 2 ^ 4) / 2 ^ 1))) X dJ15_numberOfTrailingZeros_78 (nI_add _ _) ?_
            exact jv_iret (v := nI (((1 + 16) + 4) + ((((2 ^ t - 1) / 2 ^ 16) / 2 ^ 4) / 2 ^ 1))) X dJ15_numberOfTrailingZeros_79 rfl hQ (Nat.le_of_ble_eq_true rfl) (Nat.le_of_ble_eq_true rfl) ⟨(congrArg nI (nzl_10 t ht ⟨c9, c23, c38, c52, c64⟩)), rfl⟩
          · skip
            refine jv_iinc (v := nI (((1 + 16) + 4) + 2)) (lv' := [(1, .int (nI (((1 + 16) + 4) + 2))), (0, .int (nI (((2 ^ t - 1) / 2 ^ 16) / 2 ^ 4)))]) X dJ15_numberOfTrailingZeros_67 1 rfl (nI_add _ _) (by decide) rfl ?_
            refine jv_iload_n X dJ15_numberOfTrailingZeros_70 1 rfl ?_
            refine jv_iconst (v := nI 2) X dJ15_numberOfTrailingZeros_71 rfl ?_
            refine jv_iushr (w := nI ((((2 ^ t - 1) / 2 ^ 16) / 2 ^ 4) / 2 ^ 2)) X dJ15_numberOfTrailingZeros_72 (nz_u (by omega) (by decide)) ?_
            refine jv_istore_n (lv' := [(0, .int (nI ((((2 ^ t - 1) / 2 ^ 16) / 2 ^ 4) / 2 ^ 2))), (1, .int (nI (((1 + 16) + 4) + 2)))]) X dJ15_numberOfTrailingZeros_73 rfl (by decide) rfl ?_
            refine jv_iload_n X dJ15_numberOfTrailingZeros_74 1 rfl ?_
            refine jv_iload_n X dJ15_numberOfTrailingZeros_75 0 rfl ?_
            refine jv_iconst (v := nI 1) X dJ15_numberOfTrailingZeros_76 rfl ?_
            refine jv_iushr (w := nI (((((2 ^ t - 1) / 2 ^ 16) / 2 ^ 4) / 2 ^ 2) / 2 ^ 1)) X dJ15_numberOfTrailingZeros_77 (nz_u (by omega) (by decide)) ?_
            refine jv_iadd (w := nI ((((1 + 16) + 4) + 2) + (((((2 ^ t - 1) / 2 ^ 16) / 2 ^ 4) / 2 ^ 2) / 2 ^ 1))) X dJ15_numberOfTrailingZeros_78 (nI_add _ _) ?_
            exact jv_iret (v := nI ((((1 + 16) + 4) + 2) + (((((2 ^ t - 1) / 2 ^ 16) / 2 ^ 4) / 2 ^ 2) / 2 ^ 1))) X dJ15_numberOfTrailingZeros_79 rfl hQ (Nat.le_of_ble_eq_true rfl) (Nat.le_of_ble_eq_true rfl) ⟨(congrArg nI (nzl_11 t ht ⟨c9, c23, c38, c52, c64⟩)), rfl⟩
      · skip
        refine jv_iinc (v := nI ((1 + 16) + 8)) (lv' := [(1, .int (nI ((1 + 16) + 8))), (0, .int (nI ((2 ^ t - 1) / 2 ^ 16)))]) X dJ15_numberOfTrailingZeros_41 1 rfl (nI_add _ _) (by decide) rfl ?_
        refine jv_iload_n X dJ15_numberOfTrailingZeros_44 1 rfl ?_
        refine jv_bipush (v := nI 8) X dJ15_numberOfTrailingZeros_45 rfl ?_
        refine jv_iushr (w := nI (((2 ^ t - 1) / 2 ^ 16) / 2 ^ 8)) X dJ15_numberOfTrailingZeros_47 (nz_u (by omega) (by decide)) ?_
        refine jv_istore_n (lv' := [(0, .int (nI (((2 ^ t - 1) / 2 ^ 16) / 2 ^ 8))), (1, .int (nI ((1 + 16) + 8)))]) X dJ15_numberOfTrailingZeros_48 rfl (by decide) rfl ?_
        refine jv_iload_n X dJ15_numberOfTrailingZeros_49 0 rfl ?_
        refine jv_bipush (v := nI 16) X dJ15_numberOfTrailingZeros_50 rfl ?_
        refine jn_icmp_le 62 X dJ15_numberOfTrailingZeros_52 (by decide) (by omega) (by decide) (fun c52 => ?_) (fun c52 => ?_)
        · skip
          refine jv_iload_n X dJ15_numberOfTrailingZeros_62 0 rfl ?_
          refine jv_iconst (v := nI 4) X dJ15_numberOfTrailingZeros_63 rfl ?_
          refine jn_icmp_le 74 X dJ15_numberOfTrailingZeros_64 (by decide) (by omega) (by decide) (fun c64 => ?_) (fun c64 => ?_)
          · skip
            refine jv_iload_n X dJ15_numberOfTrailingZeros_74 1 rfl ?_
            refine jv_iload_n X dJ15_numberOfTrailingZeros_75 0 rfl ?_
            refine jv_iconst (v := nI 1) X dJ15_numberOfTrailingZeros_76 rfl ?_
            refine jv_iushr (w := nI ((((2 ^ t - 1) / 2 ^ 16) / 2 ^ 8) / 2 ^ 1)) X dJ15_numberOfTrailingZeros_77 (nz_u (by omega) (by decide)) ?_
            refine jv_iadd (w := nI (((1 + 16) + 8) + ((((2 ^ t - 1) / 2 ^ 16) / 2 ^ 8) / 2 ^ 1))) X dJ15_numberOfTrailingZeros_78 (nI_add _ _) ?_
            exact jv_iret (v := nI (((1 + 16) + 8) + ((((2 ^ t - 1) / 2 ^ 16) / 2 ^ 8) / 2 ^ 1))) X dJ15_numberOfTrailingZeros_79 rfl hQ (Nat.le_of_ble_eq_true rfl) (Nat.le_of_ble_eq_true rfl) ⟨(congrArg nI (nzl_12 t ht ⟨c9, c23, c38, c52, c64⟩)), rfl⟩
          · skip
            refine jv_iinc (v := nI (((1 + 16) + 8) + 2)) (lv' := [(1, .int (nI (((1 + 16) + 8) + 2))), (0, .int (nI (((2 ^ t - 1) / 2 ^ 16) / 2 ^ 8)))]) X dJ15_numberOfTrailingZeros_67 1 rfl (nI_add _ _) (by decide) rfl ?_
            refine jv_iload_n X dJ15_numberOfTrailingZeros_70 1 rfl ?_
            refine jv_iconst (v := nI 2) X dJ15_numberOfTrailingZeros_71 rfl ?_
            refine jv_iushr (w := nI ((((2 ^ t - 1) / 2 ^ 16) / 2 ^ 8) / 2 ^ 2)) X dJ15_numberOfTrailingZeros_72 (nz_u (by omega) (by decide)) ?_
            refine jv_istore_n (lv' := [(0, .int (nI ((((2 ^ t - 1) / 2 ^ 16) / 2 ^ 8) / 2 ^ 2))), (1, .int (nI (((1 + 16) + 8) + 2)))]) X dJ15_numberOfTrailingZeros_73 rfl (by decide) rfl ?_
            refine jv_iload_n X dJ15_numberOfTrailingZeros_74 1 rfl ?_
            refine jv_iload_n X dJ15_numberOfTrailingZeros_75 0 rfl ?_
            refine jv_iconst (v := nI 1) X dJ15_numberOfTrailingZeros_76 rfl ?_
            refine jv_iushr (w := nI (((((2 ^ t - 1) / 2 ^ 16) / 2 ^ 8) / 2 ^ 2) / 2 ^ 1)) X dJ15_numberOfTrailingZeros_77 (nz_u (by omega) (by decide)) ?_
            refine jv_iadd (w := nI ((((1 + 16) + 8) + 2) + (((((2 ^ t - 1) / 2 ^ 16) / 2 ^ 8) / 2 ^ 2) / 2 ^ 1))) X dJ15_numberOfTrailingZeros_78 (nI_add _ _) ?_
            exact jv_iret (v := nI ((((1 + 16) + 8) + 2) + (((((2 ^ t - 1) / 2 ^ 16) / 2 ^ 8) / 2 ^ 2) / 2 ^ 1))) X dJ15_numberOfTrailingZeros_79 rfl hQ (Nat.le_of_ble_eq_true rfl) (Nat.le_of_ble_eq_true rfl) ⟨(congrArg nI (nzl_13 t ht ⟨c9, c23, c38, c52, c64⟩)), rfl⟩
        · skip
          refine jv_iinc (v := nI (((1 + 16) + 8) + 4)) (lv' := [(1, .int (nI (((1 + 16) + 8) + 4))), (0, .int (nI (((2 ^ t - 1) / 2 ^ 16) / 2 ^ 8)))]) X dJ15_numberOfTrailingZeros_55 1 rfl (nI_add _ _) (by decide) rfl ?_
          refine jv_iload_n X dJ15_numberOfTrailingZeros_58 1 rfl ?_
          refine jv_iconst (v := nI 4) X dJ15_numberOfTrailingZeros_59 rfl ?_
          refine jv_iushr (w := nI ((((2 ^ t - 1) / 2 ^ 16) / 2 ^ 8) / 2 ^ 4)) X dJ15_numberOfTrailingZeros_60 (nz_u (by omega) (by decide)) ?_
          refine jv_istore_n (lv' := [(0, .int (nI ((((2 ^ t - 1) / 2 ^ 16) / 2 ^ 8) / 2 ^ 4))), (1, .int (nI (((1 + 16) + 8) + 4)))]) X dJ15_numberOfTrailingZeros_61 rfl (by decide) rfl ?_
          refine jv_iload_n X dJ15_numberOfTrailingZeros_62 0 rfl ?_
          refine jv_iconst (v := nI 4) X dJ15_numberOfTrailingZeros_63 rfl ?_
          refine jn_icmp_le 74 X dJ15_numberOfTrailingZeros_64 (by decide) (by omega) (by decide) (fun c64 => ?_) (fun c64 => ?_)
          · skip
            refine jv_iload_n X dJ15_numberOfTrailingZeros_74 1 rfl ?_
            refine jv_iload_n X dJ15_numberOfTrailingZeros_75 0 rfl ?_
            refine jv_iconst (v := nI 1) X dJ15_numberOfTrailingZeros_76 rfl ?_
            refine jv_iushr (w := nI (((((2 ^ t - 1) / 2 ^ 16) / 2 ^ 8) / 2 ^ 4) / 2 ^ 1)) X dJ15_numberOfTrailingZeros_77 (nz_u (by omega) (by decide)) ?_
            refine jv_iadd (w := nI ((((1 + 16) + 8) + 4) + (((((2 ^ t - 1) / 2 ^ 16) / 2 ^ 8) / 2 ^ 4) / 2 ^ 1))) X dJ15_numberOfTrailingZeros_78 (nI_add _ _) ?_
            exact jv_iret (v := nI ((((1 + 16) + 8) + 4) + (((((2 ^ t - 1) / 2 ^ 16) / 2 ^ 8) / 2 ^ 4) / 2 ^ 1))) X dJ15_numberOfTrailingZeros_79 rfl hQ (Nat.le_of_ble_eq_true rfl) (Nat.le_of_ble_eq_true rfl) ⟨(congrArg nI (nzl_14 t ht ⟨c9, c23, c38, c52, c64⟩)), rfl⟩
          · skip
            refine jv_iinc (v := nI ((((1 + 16) + 8) + 4) + 2)) (lv' := [(1, .int (nI ((((1 + 16) + 8) + 4) + 2))), (0, .int (nI ((((2 ^ t - 1) / 2 ^ 16) / 2 ^ 8) / 2 ^ 4)))]) X dJ15_numberOfTrailingZeros_67 1 rfl (nI_add _ _) (by decide) rfl ?_
            refine jv_iload_n X dJ15_numberOfTrailingZeros_70 1 rfl ?_
            refine jv_iconst (v := nI 2) X dJ15_numberOfTrailingZeros_71 rfl ?_
            refine jv_iushr (w := nI (((((2 ^ t - 1) / 2 ^ 16) / 2 ^ 8) / 2 ^ 4) / 2 ^ 2)) X dJ15_numberOfTrailingZeros_72 (nz_u (by omega) (by decide)) ?_
            refine jv_istore_n (lv' := [(0, .int (nI (((((2 ^ t - 1) / 2 ^ 16) / 2 ^ 8) / 2 ^ 4) / 2 ^ 2))), (1, .int (nI ((((1 + 16) + 8) + 4) + 2)))]) X dJ15_numberOfTrailingZeros_73 rfl (by decide) rfl ?_
            refine jv_iload_n X dJ15_numberOfTrailingZeros_74 1 rfl ?_
            refine jv_iload_n X dJ15_numberOfTrailingZeros_75 0 rfl ?_
            refine jv_iconst (v := nI 1) X dJ15_numberOfTrailingZeros_76 rfl ?_
            refine jv_iushr (w := nI ((((((2 ^ t - 1) / 2 ^ 16) / 2 ^ 8) / 2 ^ 4) / 2 ^ 2) / 2 ^ 1)) X dJ15_numberOfTrailingZeros_77 (nz_u (by omega) (by decide)) ?_
            refine jv_iadd (w := nI (((((1 + 16) + 8) + 4) + 2) + ((((((2 ^ t - 1) / 2 ^ 16) / 2 ^ 8) / 2 ^ 4) / 2 ^ 2) / 2 ^ 1))) X dJ15_numberOfTrailingZeros_78 (nI_add _ _) ?_
            exact jv_iret (v := nI (((((1 + 16) + 8) + 4) + 2) + ((((((2 ^ t - 1) / 2 ^ 16) / 2 ^ 8) / 2 ^ 4) / 2 ^ 2) / 2 ^ 1))) X dJ15_numberOfTrailingZeros_79 rfl hQ (Nat.le_of_ble_eq_true rfl) (Nat.le_of_ble_eq_true rfl) ⟨(congrArg nI (nzl_15 t ht ⟨c9, c23, c38, c52, c64⟩)), rfl⟩
  · skip
    refine jv_iload_n X dJ15_numberOfTrailingZeros_12 0 rfl ?_
    refine jv_bipush (v := nI 32) X dJ15_numberOfTrailingZeros_13 rfl ?_
    refine jv_iand (w := nI ((2 ^ t - 1) &&& 32)) X dJ15_numberOfTrailingZeros_15 (ni_and _ _) ?_
    exact jv_iret (v := nI ((2 ^ t - 1) &&& 32)) X dJ15_numberOfTrailingZeros_16 rfl hQ (Nat.le_of_ble_eq_true rfl) (Nat.le_of_ble_eq_true rfl) ⟨(congrArg nI (nz_0 t ht c9)), rfl⟩
theorem hd_J14_numberOfTrailingZeros : jv_dd yJ14_numberOfTrailingZeros 1 := by unfold jv_dd; decide +kernel
set_option maxHeartbeats 4000000 in
theorem c_J14_numberOfTrailingZeros {l : Launch} {G : jv_G} {M : jv_M} (m : Nat) (t : Nat) (c : Nat) (hm : m = 2 ^ t * (2 * c + 1)) (h36 : m < 2 ^ 36) : jv_Ct G l yJ14_numberOfTrailingZeros cJ14_numberOfTrailingZeros 3 (some .int) 1 0 0 21 [.long (lN m)] M (jv_qi G (jv_pi (nI t) M)) := by
  refine jv_Ct.of (lv := [(0, .long (lN m))]) (by decide) (Nat.le_of_ble_eq_true rfl) rfl ?_
  intro x Q_ hl_ hQ X
  subst hl_
  have ht_ := nz_t hm h36
  refine jv_lload_n X dJ14_numberOfTrailingZeros_0 0 rfl ?_
  refine jv_l2i (w := nI m) X dJ14_numberOfTrailingZeros_1 (lN_i _) ?_
  refine jv_istore_n (lv' := [(2, .int (nI m)), (0, .long (lN m))]) X dJ14_numberOfTrailingZeros_2 rfl (by decide) rfl ?_
  refine jv_iload_n X dJ14_numberOfTrailingZeros_3 0 rfl ?_
  refine jv_if_ne 21 X dJ14_numberOfTrailingZeros_4 (by decide) (fun c4 => ?_) (fun c4 => ?_)
  · skip
    refine jv_iload_n X dJ14_numberOfTrailingZeros_21 0 rfl ?_
    refine jv_ask (jv_runS (As := [.int (nI m)]) (rest := []) X dJ14_numberOfTrailingZeros_22 (c_J15_numberOfTrailingZeros m t c hm (nz_lo hm c4)) (lw_S q1069 q1070 q119 q1071) hd_J15_numberOfTrailingZeros (Nat.le_of_ble_eq_true rfl) (Nat.le_of_ble_eq_true rfl) (Nat.le_of_ble_eq_true rfl) (Nat.le_of_ble_eq_true rfl) rfl (Nat.le_of_ble_eq_true rfl)) ?_
    exact jv_iret (v := nI t) X dJ14_numberOfTrailingZeros_25 rfl hQ (Nat.le_of_ble_eq_true rfl) (Nat.le_of_ble_eq_true rfl) ⟨rfl, rfl⟩
  · skip
    obtain ⟨h32_, hq_⟩ := nz_hi hm (nz_32 c4)
    refine jv_bipush (v := nI 32) X dJ14_numberOfTrailingZeros_7 rfl ?_
    refine jv_lload_n X dJ14_numberOfTrailingZeros_9 1 rfl ?_
    refine jv_bipush (v := nI 32) X dJ14_numberOfTrailingZeros_10 rfl ?_
    refine jv_lushr (w := lN (m / 2 ^ 32)) X dJ14_numberOfTrailingZeros_12 (wb_shr (by omega) (by decide)) ?_
    refine jv_l2i (w := nI (m / 2 ^ 32)) X dJ14_numberOfTrailingZeros_13 (lN_i _) ?_
    refine jv_ask (jv_runS (As := [.int (nI (m / 2 ^ 32))]) (rest := [.int (nI 32)]) X dJ14_numberOfTrailingZeros_14 (c_J15_numberOfTrailingZeros (m / 2 ^ 32) (t - 32) c hq_ (by omega)) (lw_S q1069 q1070 q119 q1071) hd_J15_numberOfTrailingZeros (Nat.le_of_ble_eq_true rfl) (Nat.le_of_ble_eq_true rfl) (Nat.le_of_ble_eq_true rfl) (Nat.le_of_ble_eq_true rfl) rfl (Nat.le_of_ble_eq_true rfl)) ?_
    refine jv_iadd (w := nI (32 + (t - 32))) X dJ14_numberOfTrailingZeros_17 (nI_add _ _) ?_
    refine jv_goto 25 X dJ14_numberOfTrailingZeros_18 (by decide) ?_
    exact jv_iret (v := nI (32 + (t - 32))) X dJ14_numberOfTrailingZeros_25 rfl hQ (Nat.le_of_ble_eq_true rfl) (Nat.le_of_ble_eq_true rfl) ⟨(congrArg nI (by omega)), rfl⟩
