/-! JDK, fourth: bits -/
set_option maxRecDepth 100000
theorem hd_J14_bitCount : jv_dd yJ14_bitCount 1 := by unfold jv_dd; decide +kernel
set_option maxHeartbeats 4000000 in
theorem c_J14_bitCount {l : Launch} {G : jv_G} {M : jv_M} (m_ : Nat) (hm : m_ < 2 ^ 36) : jv_Ct G l yJ14_bitCount cJ14_bitCount 2 (some .int) 0 0 0 0 [.long (lN m_)] M (jv_qi G (jv_pi (nI (cntN m_ 64)) M)) := by
  refine jv_Ct.of (lv := [(0, .long (lN m_))]) (by decide) (Nat.le_of_ble_eq_true rfl) rfl ?_
  intro x Q_ hl_ hQ X
  subst hl_
  have hb_ := bc_lt hm
  have hbF_ : bcF bcA bcB bcC m_ = (bc2 bcB (bc1 bcA m_) + bc2 bcB (bc1 bcA m_) / 16) &&& bcC := rfl
  refine jv_lload_n X dJ14_bitCount_0 0 rfl ?_
  refine jv_lload_n X dJ14_bitCount_1 0 rfl ?_
  refine jv_iconst (v := nI 1) X dJ14_bitCount_2 rfl ?_
  refine jv_lushr (w := lN (m_ / 2)) X dJ14_bitCount_3 (wb_shr (by omega) (by decide)) ?_
  refine jv_ldc2 (v := lN 6148914691236517205) X dJ14_bitCount_4 q1034 ?_
  refine jv_land (w := lN (m_ / 2 &&& bcA)) X dJ14_bitCount_7 (wb_and (by omega) (by decide)) ?_
  refine jv_lsub (w := lN (bc1 bcA m_)) X dJ14_bitCount_8 (lN_sub (Nat.le_trans Nat.and_le_left (Nat.div_le_self _ _))) ?_
  refine jv_lstore_n (lv' := [(0, .long (lN (bc1 bcA m_)))]) X dJ14_bitCount_9 rfl (by decide) rfl ?_
  refine jv_lload_n X dJ14_bitCount_10 0 rfl ?_
  refine jv_ldc2 (v := lN 3689348814741910323) X dJ14_bitCount_11 q1035 ?_
  refine jv_land (w := lN (bc1 bcA m_ &&& bcB)) X dJ14_bitCount_14 (wb_and (by omega) (by decide)) ?_
  refine jv_lload_n X dJ14_bitCount_15 0 rfl ?_
  refine jv_iconst (v := nI 2) X dJ14_bitCount_16 rfl ?_
  refine jv_lushr (w := lN (bc1 bcA m_ / 4)) X dJ14_bitCount_17 (wb_shr (by omega) (by decide)) ?_
  refine jv_ldc2 (v := lN 3689348814741910323) X dJ14_bitCount_18 q1035 ?_
  refine jv_land (w := lN (bc1 bcA m_ / 4 &&& bcB)) X dJ14_bitCount_21 (wb_and (by omega) (by decide)) ?_
  refine jv_ladd (w := lN (bc2 bcB (bc1 bcA m_))) X dJ14_bitCount_22 (lN_add _ _) ?_
  refine jv_lstore_n (lv' := [(0, .long (lN (bc2 bcB (bc1 bcA m_))))]) X dJ14_bitCount_23 rfl (by decide) rfl ?_
  refine jv_lload_n X dJ14_bitCount_24 0 rfl ?_
  refine jv_lload_n X dJ14_bitCount_25 0 rfl ?_
  refine jv_iconst (v := nI 4) X dJ14_bitCount_26 rfl ?_
  refine jv_lushr (w := lN (bc2 bcB (bc1 bcA m_) / 16)) X dJ14_bitCount_27 (wb_shr (by omega) (by decide)) ?_
  refine jv_ladd (w := lN (bc2 bcB (bc1 bcA m_) + bc2 bcB (bc1 bcA m_) / 16)) X dJ14_bitCount_28 (lN_add _ _) ?_
  refine jv_ldc2 (v := lN 1085102592571150095) X dJ14_bitCount_29 q1036 ?_
  refine jv_land (w := lN (bcF bcA bcB bcC m_)) X dJ14_bitCount_32 (wb_and (by omega) (by decide)) ?_
  refine jv_lstore_n (lv' := [(0, .long (lN (bcF bcA bcB bcC m_)))]) X dJ14_bitCount_33 rfl (by decide) rfl ?_
  obtain ⟨s3_, hs3_⟩ : ∃ s, s = bcF bcA bcB bcC m_ := ⟨_, rfl⟩
  rw [← hs3_]
  refine jv_lload_n X dJ14_bitCount_34 0 rfl ?_
  refine jv_lload_n X dJ14_bitCount_35 0 rfl ?_
  refine jv_bipush (v := nI 8) X dJ14_bitCount_36 rfl ?_
  refine jv_lushr (w := lN (s3_ / 256)) X dJ14_bitCount_38 (wb_shr (by omega) (by decide)) ?_
  refine jv_ladd (w := lN (s3_ + s3_ / 256)) X dJ14_bitCount_39 (lN_add _ _) ?_
  refine jv_lstore_n (lv' := [(0, .long (lN (s3_ + s3_ / 256)))]) X dJ14_bitCount_40 rfl (by decide) rfl ?_
  obtain ⟨s4_, hs4_⟩ : ∃ s, s = s3_ + s3_ / 256 := ⟨_, rfl⟩
  rw [← hs4_]
  refine jv_lload_n X dJ14_bitCount_41 0 rfl ?_
  refine jv_lload_n X dJ14_bitCount_42 0 rfl ?_
  refine jv_bipush (v := nI 16) X dJ14_bitCount_43 rfl ?_
  refine jv_lushr (w := lN (s4_ / 65536)) X dJ14_bitCount_45 (wb_shr (by omega) (by decide)) ?_
  refine jv_ladd (w := lN (s4_ + s4_ / 65536)) X dJ14_bitCount_46 (lN_add _ _) ?_
  refine jv_lstore_n (lv' := [(0, .long (lN (s4_ + s4_ / 65536)))]) X dJ14_bitCount_47 rfl (by decide) rfl ?_
  obtain ⟨s5_, hs5_⟩ : ∃ s, s = s4_ + s4_ / 65536 := ⟨_, rfl⟩
  rw [← hs5_]
  refine jv_lload_n X dJ14_bitCount_48 0 rfl ?_
  refine jv_lload_n X dJ14_bitCount_49 0 rfl ?_
  refine jv_bipush (v := nI 32) X dJ14_bitCount_50 rfl ?_
  refine jv_lushr (w := lN (s5_ / 4294967296)) X dJ14_bitCount_52 (wb_shr (by omega) (by decide)) ?_
  refine jv_ladd (w := lN (s5_ + s5_ / 4294967296)) X dJ14_bitCount_53 (lN_add _ _) ?_
  refine jv_lstore_n (lv' := [(0, .long (lN (s5_ + s5_ / 4294967296)))]) X dJ14_bitCount_54 rfl (by decide) rfl ?_
  refine jv_lload_n X dJ14_bitCount_55 0 rfl ?_
  refine jv_l2i (w := nI (s5_ + s5_ / 4294967296)) X dJ14_bitCount_56 (lN_i _) ?_
  refine jv_bipush (v := nI 127) X dJ14_bitCount_57 rfl ?_
  refine jv_iand (w := nI ((s5_ + s5_ / 4294967296) % 128)) X dJ14_bitCount_59 ((ni_and _ _).trans (by rw [show 127 = 2 ^ 7 - 1 from rfl, Nat.and_two_pow_sub_one_eq_mod])) ?_
  exact jv_iret (v := nI ((s5_ + s5_ / 4294967296) % 128)) X dJ14_bitCount_60 rfl hQ (Nat.le_of_ble_eq_true rfl) (Nat.le_of_ble_eq_true rfl) ⟨(by rw [bc_all hm hs3_ hs4_ hs5_ rfl]), rfl⟩
