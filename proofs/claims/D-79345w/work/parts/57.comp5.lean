/-! the component, fifth: rules -/
set_option maxRecDepth 100000
def yA_Rule_kind : MethodName := ⟨"VersionSolver$Rule", "kind", "()I"⟩
theorem hd_yA_Rule_kind : jv_dd yA_Rule_kind 0 := by unfold jv_dd; decide +kernel
def yA_Rule_ranged : MethodName := ⟨"VersionSolver$Rule", "ranged", "()I"⟩
theorem hd_yA_Rule_ranged : jv_dd yA_Rule_ranged 0 := by unfold jv_dd; decide +kernel
def yA_Rule_narrows : MethodName := ⟨"VersionSolver$Rule", "narrows", "(LVersionSolver$Trace;I)V"⟩
theorem hd_yA_Rule_narrows : jv_dd yA_Rule_narrows 2 := by unfold jv_dd; decide +kernel
def yA_Rule_conditions : MethodName := ⟨"VersionSolver$Rule", "conditions", "(I)I"⟩
theorem hd_yA_Rule_conditions : jv_dd yA_Rule_conditions 1 := by unfold jv_dd; decide +kernel
def yA_Rule_impossible : MethodName := ⟨"VersionSolver$Rule", "impossible", "(I[II)I"⟩
theorem hd_yA_Rule_impossible : jv_dd yA_Rule_impossible 3 := by unfold jv_dd; decide +kernel
def yA_Search_finds : MethodName := ⟨"VersionSolver$Search", "finds", "()Z"⟩
theorem hd_yA_Search_finds : jv_dd yA_Search_finds 0 := by unfold jv_dd; decide +kernel
def yA_Rule_last : MethodName := ⟨"VersionSolver$Rule", "last", "()I"⟩
theorem hd_yA_Rule_last : jv_dd yA_Rule_last 0 := by unfold jv_dd; decide +kernel
def yA_Rule_isKept : MethodName := ⟨"VersionSolver$Rule", "isKept", "(I[I)Z"⟩
theorem hd_yA_Rule_isKept : jv_dd yA_Rule_isKept 2 := by unfold jv_dd; decide +kernel
def yA_Counting_goes : MethodName := ⟨"VersionSolver$Counting", "goes", "(I)Z"⟩
theorem hd_yA_Counting_goes : jv_dd yA_Counting_goes 1 := by unfold jv_dd; decide +kernel
def yA_First_goes : MethodName := ⟨"VersionSolver$First", "goes", "(I)Z"⟩
theorem hd_yA_First_goes : jv_dd yA_First_goes 1 := by unfold jv_dd; decide +kernel
def yA_Look_reached : MethodName := ⟨"VersionSolver$Look", "reached", "()I"⟩
theorem hd_yA_Look_reached : jv_dd yA_Look_reached 0 := by unfold jv_dd; decide +kernel
def yA_Gathering_goes : MethodName := ⟨"VersionSolver$Gathering", "goes", "(I)Z"⟩
theorem hd_yA_Gathering_goes : jv_dd yA_Gathering_goes 1 := by unfold jv_dd; decide +kernel
def yA_Tie_lets : MethodName := ⟨"VersionSolver$Tie", "lets", "(I)I"⟩
theorem hd_yA_Tie_lets : jv_dd yA_Tie_lets 1 := by unfold jv_dd; decide +kernel
def yA_Need_isOf : MethodName := ⟨"VersionSolver$Need", "isOf", "(II)Z"⟩
theorem hd_yA_Need_isOf : jv_dd yA_Need_isOf 2 := by unfold jv_dd; decide +kernel
def yA_Tie_reaches : MethodName := ⟨"VersionSolver$Tie", "reaches", "(II)I"⟩
theorem hd_yA_Tie_reaches : jv_dd yA_Tie_reaches 2 := by unfold jv_dd; decide +kernel
def wht (k p v o g w : Int32) : Int32 := if w = nI 0 then k else if w = nI 1 then p else if w = nI 2 then v else if w = nI 3 then o else if w = nI 4 then g else (-5)
theorem sI_5 {d : Nat} (h : d < 7) : sI d = (-5) ↔ d = 0 := by
  rcases (by omega : d = 0 ∨ d = 1 ∨ d = 2 ∨ d = 3 ∨ d = 4 ∨ d = 5 ∨ d = 6) with rfl | rfl | rfl | rfl | rfl | rfl | rfl <;> decide
theorem sI_n {d : Nat} (h : ¬ d = 0) : sI d = nI (d - 1) := if_neg h
theorem sI_shl {d : Nat} (h7 : d < 7) (h : ¬ sI d = (-5)) : nI 1 <<< (sI d &&& 31) = nI (2 ^ (d - 1)) := by
  have h0 : ¬ d = 0 := fun z => h ((sI_5 h7).mpr z)
  rw [sI_n h0]
  exact ni_shl1 (by omega)
def pksN (S : Nat → Nat) (r : Nat) : Nat → Nat
  | 0 => 0
  | p + 1 => pksN S r p ||| (if lsd S r p = 0 then 0 else 2 ^ p)
theorem pksN_lt (S : Nat → Nat) (r : Nat) : ∀ p, pksN S r p < 2 ^ p
  | 0 => Nat.one_pos
  | p + 1 => by
    have h := pksN_lt S r p
    unfold pksN
    refine Nat.or_lt_two_pow (Nat.lt_of_lt_of_le h (Nat.pow_le_pow_right (by decide) (by omega))) ?_
    split
    · exact Nat.two_pow_pos _
    · exact Nat.pow_lt_pow_right (by decide) (by omega)
def pks (S : Nat → Nat) (r : Nat) : Nat := pksN S r 6
theorem pks_lt (S : Nat → Nat) (r : Nat) : pks S r < 64 := pksN_lt S r 6
def imN (S : Nat → Nat) (r : Nat) (l : Nat → Nat) (t : Nat) : Nat → Bool
  | 0 => true
  | q + 1 => imN S r l t q && (decide (q = t) || decide (lsd S r q = 0) || decide (l q = 2 ^ (lsd S r q - 1)))
theorem imN_f {S : Nat → Nat} {r t q : Nat} {l : Nat → Nat} (h1 : ¬ q = t) (h2 : ¬ lsd S r q = 0) (h3 : ¬ l q = 2 ^ (lsd S r q - 1)) : ∀ {n : Nat}, q < n → imN S r l t n = false
  | 0, hn => absurd hn (Nat.not_lt_zero _)
  | n + 1, hn => by
    unfold imN
    rcases Nat.lt_or_ge q n with h | h
    · rw [imN_f h1 h2 h3 h]; rfl
    · rw [show n = q by omega]; simp [h1, h2, h3]
theorem isN_im {S : Nat → Nat} {r t : Nat} {T : t_T2} (h : ¬ lsd S r t = 0) : ∀ (n : Nat), isN S r T t n = imN S r (tl T) t n
  | 0 => by unfold isN imN; rw [if_neg h]
  | n + 1 => by
    unfold isN imN
    rw [isN_im h n]
    cases imN S r (tl T) t n
    · rfl
    · by_cases h1 : n = t <;> by_cases h2 : lsd S r n = 0 <;> by_cases h3 : tl T n = 2 ^ (lsd S r n - 1) <;> simp [h1, h2, h3]
/-- whether states hold apart from a learned rule's -/
def hl6N (S : Nat → Nat) (r : Nat) (c : Nat → Nat) : Nat → Bool
  | 0 => false
  | p + 1 => hl6N S r c p || (!decide (lsd S r p = 0) && !decide (lsd S r p - 1 = c p))
theorem hl6N_t {S : Nat → Nat} {r p : Nat} {c : Nat → Nat} (h1 : ¬ lsd S r p = 0) (h2 : ¬ lsd S r p - 1 = c p) : ∀ {n : Nat}, p < n → hl6N S r c n = true
  | 0, hn => absurd hn (Nat.not_lt_zero _)
  | n + 1, hn => by
    unfold hl6N
    rcases Nat.lt_or_ge p n with h | h
    · rw [hl6N_t h1 h2 h]; rfl
    · rw [show n = p by omega]; simp [h1, h2]
theorem tcm {a b : Nat} : (if a ≤ b then b else a) = (if b ≤ a then a else b) := by split <;> split <;> omega
theorem hd_X6_kind : jv_dd yX6_kind 0 := by unfold jv_dd; decide +kernel
set_option maxHeartbeats 4000000 in
theorem c_X6_kind {l : Launch} {G : jv_G} {M : jv_M} {a : Nat}   : jv_Ct G l yX6_kind cX6_kind 1 (some .int) 0 0 0 0 [.ref a] M (jv_qi G (jv_pi (nI 0) M)) := by
  refine jv_Ct.of (lv := [(0, .ref a)]) (by decide) (Nat.le_of_ble_eq_true rfl) rfl ?_
  intro x Q_ hl_ hQ X
  subst hl_
  refine jv_iconst (v := nI 0) X dX6_kind_0 rfl ?_
  exact jv_iret (v := nI 0) X dX6_kind_1 rfl hQ (Nat.le_of_ble_eq_true rfl) (Nat.le_of_ble_eq_true rfl) ⟨rfl, rfl⟩
theorem hd_X8_kind : jv_dd yX8_kind 0 := by unfold jv_dd; decide +kernel
set_option maxHeartbeats 4000000 in
theorem c_X8_kind {l : Launch} {G : jv_G} {M : jv_M} {a : Nat}   : jv_Ct G l yX8_kind cX8_kind 1 (some .int) 0 0 0 0 [.ref a] M (jv_qi G (jv_pi (nI 1) M)) := by
  refine jv_Ct.of (lv := [(0, .ref a)]) (by decide) (Nat.le_of_ble_eq_true rfl) rfl ?_
  intro x Q_ hl_ hQ X
  subst hl_
  refine jv_iconst (v := nI 1) X dX8_kind_0 rfl ?_
  exact jv_iret (v := nI 1) X dX8_kind_1 rfl hQ (Nat.le_of_ble_eq_true rfl) (Nat.le_of_ble_eq_true rfl) ⟨rfl, rfl⟩
theorem hd_X9_kind : jv_dd yX9_kind 0 := by unfold jv_dd; decide +kernel
set_option maxHeartbeats 4000000 in
theorem c_X9_kind {l : Launch} {G : jv_G} {M : jv_M} {a : Nat}   : jv_Ct G l yX9_kind cX9_kind 1 (some .int) 0 0 0 0 [.ref a] M (jv_qi G (jv_pi (nI 2) M)) := by
  refine jv_Ct.of (lv := [(0, .ref a)]) (by decide) (Nat.le_of_ble_eq_true rfl) rfl ?_
  intro x Q_ hl_ hQ X
  subst hl_
  refine jv_iconst (v := nI 2) X dX9_kind_0 rfl ?_
  exact jv_iret (v := nI 2) X dX9_kind_1 rfl hQ (Nat.le_of_ble_eq_true rfl) (Nat.le_of_ble_eq_true rfl) ⟨rfl, rfl⟩
theorem hd_X13_kind : jv_dd yX13_kind 0 := by unfold jv_dd; decide +kernel
set_option maxHeartbeats 4000000 in
theorem c_X13_kind {l : Launch} {G : jv_G} {M : jv_M} {a : Nat}   : jv_Ct G l yX13_kind cX13_kind 1 (some .int) 0 0 0 0 [.ref a] M (jv_qi G (jv_pi (nI 3) M)) := by
  refine jv_Ct.of (lv := [(0, .ref a)]) (by decide) (Nat.le_of_ble_eq_true rfl) rfl ?_
  intro x Q_ hl_ hQ X
  subst hl_
  refine jv_iconst (v := nI 3) X dX13_kind_0 rfl ?_
  exact jv_iret (v := nI 3) X dX13_kind_1 rfl hQ (Nat.le_of_ble_eq_true rfl) (Nat.le_of_ble_eq_true rfl) ⟨rfl, rfl⟩
theorem hd_X5_what : jv_dd yX5_what 1 := by unfold jv_dd; decide +kernel
set_option maxHeartbeats 4000000 in
theorem c_X5_what_X6 {l : Launch} {G : jv_G} {M : jv_M} {a p g : Nat} (ha : M a = some (.inr (5, [.int (nI p), .int (-5), .int (-5), .int (nI g)]))) (w_ : Int32)  : jv_Ct G l yX5_what cX5_what 2 (some .int) 1 0 0 20 [.ref a, .int w_] M (jv_qi G (jv_pi (wht (nI 0) (nI p) ((-5)) ((-5)) (nI g) w_) M)) := by
  refine jv_Ct.of (lv := [(0, .ref a), (1, .int w_)]) (by decide) (Nat.le_of_ble_eq_true rfl) rfl ?_
  intro x Q_ hl_ hQ X
  subst hl_
  refine jv_iload_n X dX5_what_0 1 rfl ?_
  by_cases c1_0 : w_ = nI 0
  · skip
    refine jv_tableIn 36 X dX5_what_1 (by rw [c1_0]; decide) (by rw [c1_0]; decide) (by rw [c1_0]; rfl) (by decide) ?_
    subst c1_0
    refine jv_aload_n X dX5_what_36 0 rfl ?_
    refine jv_ask (jv_runU (As := []) (rest := []) X dX5_what_37 c_X6_kind (jv_cuA X (lw_U (x := yA_Rule_kind) q813 q815 q825 q826 q111 q827) q814 ⟨by decide, by decide⟩ hd_yA_Rule_kind (Nat.le_of_ble_eq_true rfl) (Nat.le_of_ble_eq_true rfl)) ha (show jv_cl[5]? = some (RX6, TX6, 4) from rfl) (Nat.le_of_ble_eq_true rfl) (Nat.le_of_ble_eq_true rfl) rfl (Nat.le_of_ble_eq_true rfl)) ?_
    refine jv_goto 73 X dX5_what_40 (by decide) ?_
    exact jv_iret (v := nI 0) X dX5_what_73 rfl hQ (Nat.le_of_ble_eq_true rfl) (Nat.le_of_ble_eq_true rfl) ⟨(by unfold wht; rw [if_pos rfl]), rfl⟩
  · skip
    by_cases c1_1 : w_ = nI 1
    · skip
      refine jv_tableIn 43 X dX5_what_1 (by rw [c1_1]; decide) (by rw [c1_1]; decide) (by rw [c1_1]; rfl) (by decide) ?_
      subst c1_1
      refine jv_aload_n X dX5_what_43 0 rfl ?_
      refine jv_get X dX5_what_44 ha (T := TX6) (N := 4) (C := RX6) rfl in_X6 0 (by decide) q701 rfl rfl ?_
      refine jv_goto 73 X dX5_what_47 (by decide) ?_
      exact jv_iret (v := nI p) X dX5_what_73 rfl hQ (Nat.le_of_ble_eq_true rfl) (Nat.le_of_ble_eq_true rfl) ⟨(by unfold wht; rw [if_neg c1_0];  rw [if_pos (by first | rfl | assumption)]), rfl⟩
    · skip
      by_cases c1_2 : w_ = nI 2
      · skip
        refine jv_tableIn 50 X dX5_what_1 (by rw [c1_2]; decide) (by rw [c1_2]; decide) (by rw [c1_2]; rfl) (by decide) ?_
        subst c1_2
        refine jv_aload_n X dX5_what_50 0 rfl ?_
        refine jv_get X dX5_what_51 ha (T := TX6) (N := 4) (C := RX6) rfl in_X6 1 (by decide) q706 rfl rfl ?_
        refine jv_goto 73 X dX5_what_54 (by decide) ?_
        exact jv_iret (v := (-5)) X dX5_what_73 rfl hQ (Nat.le_of_ble_eq_true rfl) (Nat.le_of_ble_eq_true rfl) ⟨(by unfold wht; rw [if_neg c1_0];  rw [if_neg c1_1];  rw [if_pos (by first | rfl | assumption)]), rfl⟩
      · skip
        by_cases c1_3 : w_ = nI 3
        · skip
          refine jv_tableIn 57 X dX5_what_1 (by rw [c1_3]; decide) (by rw [c1_3]; decide) (by rw [c1_3]; rfl) (by decide) ?_
          subst c1_3
          refine jv_aload_n X dX5_what_57 0 rfl ?_
          refine jv_get X dX5_what_58 ha (T := TX6) (N := 4) (C := RX6) rfl in_X6 2 (by decide) q709 rfl rfl ?_
          refine jv_goto 73 X dX5_what_61 (by decide) ?_
          exact jv_iret (v := (-5)) X dX5_what_73 rfl hQ (Nat.le_of_ble_eq_true rfl) (Nat.le_of_ble_eq_true rfl) ⟨(by unfold wht; rw [if_neg c1_0];  rw [if_neg c1_1];  rw [if_neg c1_2];  rw [if_pos (by first | rfl | assumption)]), rfl⟩
        · skip
          by_cases c1_4 : w_ = nI 4
          · skip
            refine jv_tableIn 64 X dX5_what_1 (by rw [c1_4]; decide) (by rw [c1_4]; decide) (by rw [c1_4]; rfl) (by decide) ?_
            subst c1_4
            refine jv_aload_n X dX5_what_64 0 rfl ?_
            refine jv_get X dX5_what_65 ha (T := TX6) (N := 4) (C := RX6) rfl in_X6 3 (by decide) q714 rfl rfl ?_
            refine jv_goto 73 X dX5_what_68 (by decide) ?_
            exact jv_iret (v := nI g) X dX5_what_73 rfl hQ (Nat.le_of_ble_eq_true rfl) (Nat.le_of_ble_eq_true rfl) ⟨(by unfold wht; rw [if_neg c1_0];  rw [if_neg c1_1];  rw [if_neg c1_2];  rw [if_neg c1_3];  rw [if_pos (by first | rfl | assumption)]), rfl⟩
          · skip
            refine jv_tableOut 71 X dX5_what_1 (jt_out5 c1_0 c1_1 c1_2 c1_3 c1_4) (by decide) ?_
            refine jv_bipush (v := (-5)) X dX5_what_71 rfl ?_
            exact jv_iret (v := (-5)) X dX5_what_73 rfl hQ (Nat.le_of_ble_eq_true rfl) (Nat.le_of_ble_eq_true rfl) ⟨(by unfold wht; rw [if_neg c1_0];  rw [if_neg c1_1];  rw [if_neg c1_2];  rw [if_neg c1_3];  rw [if_neg c1_4]), rfl⟩
set_option maxHeartbeats 4000000 in
theorem c_X5_what_X8 {l : Launch} {G : jv_G} {M : jv_M} {a p v o g : Nat} (ha : M a = some (.inr (6, [.int (nI p), .int (nI v), .int (nI o), .int (nI g)]))) (w_ : Int32)  : jv_Ct G l yX5_what cX5_what 2 (some .int) 1 0 0 20 [.ref a, .int w_] M (jv_qi G (jv_pi (wht (nI 1) (nI p) (nI v) (nI o) (nI g) w_) M)) := by
  refine jv_Ct.of (lv := [(0, .ref a), (1, .int w_)]) (by decide) (Nat.le_of_ble_eq_true rfl) rfl ?_
  intro x Q_ hl_ hQ X
  subst hl_
  refine jv_iload_n X dX5_what_0 1 rfl ?_
  by_cases c1_0 : w_ = nI 0
  · skip
    refine jv_tableIn 36 X dX5_what_1 (by rw [c1_0]; decide) (by rw [c1_0]; decide) (by rw [c1_0]; rfl) (by decide) ?_
    subst c1_0
    refine jv_aload_n X dX5_what_36 0 rfl ?_
    refine jv_ask (jv_runU (As := []) (rest := []) X dX5_what_37 c_X8_kind (jv_cuA X (lw_U (x := yA_Rule_kind) q813 q815 q822 q823 q113 q824) q814 ⟨by decide, by decide⟩ hd_yA_Rule_kind (Nat.le_of_ble_eq_true rfl) (Nat.le_of_ble_eq_true rfl)) ha (show jv_cl[6]? = some (RX8, TX8, 4) from rfl) (Nat.le_of_ble_eq_true rfl) (Nat.le_of_ble_eq_true rfl) rfl (Nat.le_of_ble_eq_true rfl)) ?_
    refine jv_goto 73 X dX5_what_40 (by decide) ?_
    exact jv_iret (v := nI 1) X dX5_what_73 rfl hQ (Nat.le_of_ble_eq_true rfl) (Nat.le_of_ble_eq_true rfl) ⟨(by unfold wht; rw [if_pos rfl]), rfl⟩
  · skip
    by_cases c1_1 : w_ = nI 1
    · skip
      refine jv_tableIn 43 X dX5_what_1 (by rw [c1_1]; decide) (by rw [c1_1]; decide) (by rw [c1_1]; rfl) (by decide) ?_
      subst c1_1
      refine jv_aload_n X dX5_what_43 0 rfl ?_
      refine jv_get X dX5_what_44 ha (T := TX8) (N := 4) (C := RX8) rfl in_X8 0 (by decide) q701 rfl rfl ?_
      refine jv_goto 73 X dX5_what_47 (by decide) ?_
      exact jv_iret (v := nI p) X dX5_what_73 rfl hQ (Nat.le_of_ble_eq_true rfl) (Nat.le_of_ble_eq_true rfl) ⟨(by unfold wht; rw [if_neg c1_0];  rw [if_pos (by first | rfl | assumption)]), rfl⟩
    · skip
      by_cases c1_2 : w_ = nI 2
      · skip
        refine jv_tableIn 50 X dX5_what_1 (by rw [c1_2]; decide) (by rw [c1_2]; decide) (by rw [c1_2]; rfl) (by decide) ?_
        subst c1_2
        refine jv_aload_n X dX5_what_50 0 rfl ?_
        refine jv_get X dX5_what_51 ha (T := TX8) (N := 4) (C := RX8) rfl in_X8 1 (by decide) q706 rfl rfl ?_
        refine jv_goto 73 X dX5_what_54 (by decide) ?_
        exact jv_iret (v := nI v) X dX5_what_73 rfl hQ (Nat.le_of_ble_eq_true rfl) (Nat.le_of_ble_eq_true rfl) ⟨(by unfold wht; rw [if_neg c1_0];  rw [if_neg c1_1];  rw [if_pos (by first | rfl | assumption)]), rfl⟩
      · skip
        by_cases c1_3 : w_ = nI 3
        · skip
          refine jv_tableIn 57 X dX5_what_1 (by rw [c1_3]; decide) (by rw [c1_3]; decide) (by rw [c1_3]; rfl) (by decide) ?_
          subst c1_3
          refine jv_aload_n X dX5_what_57 0 rfl ?_
          refine jv_get X dX5_what_58 ha (T := TX8) (N := 4) (C := RX8) rfl in_X8 2 (by decide) q709 rfl rfl ?_
          refine jv_goto 73 X dX5_what_61 (by decide) ?_
          exact jv_iret (v := nI o) X dX5_what_73 rfl hQ (Nat.le_of_ble_eq_true rfl) (Nat.le_of_ble_eq_true rfl) ⟨(by unfold wht; rw [if_neg c1_0];  rw [if_neg c1_1];  rw [if_neg c1_2];  rw [if_pos (by first | rfl | assumption)]), rfl⟩
        · skip
          by_cases c1_4 : w_ = nI 4
          · skip
            refine jv_tableIn 64 X dX5_what_1 (by rw [c1_4]; decide) (by rw [c1_4]; decide) (by rw [c1_4]; rfl) (by decide) ?_
            subst c1_4
            refine jv_aload_n X dX5_what_64 0 rfl ?_
            refine jv_get X dX5_what_65 ha (T := TX8) (N := 4) (C := RX8) rfl in_X8 3 (by decide) q714 rfl rfl ?_
            refine jv_goto 73 X dX5_what_68 (by decide) ?_
            exact jv_iret (v := nI g) X dX5_what_73 rfl hQ (Nat.le_of_ble_eq_true rfl) (Nat.le_of_ble_eq_true rfl) ⟨(by unfold wht; rw [if_neg c1_0];  rw [if_neg c1_1];  rw [if_neg c1_2];  rw [if_neg c1_3];  rw [if_pos (by first | rfl | assumption)]), rfl⟩
          · skip
            refine jv_tableOut 71 X dX5_what_1 (jt_out5 c1_0 c1_1 c1_2 c1_3 c1_4) (by decide) ?_
            refine jv_bipush (v := (-5)) X dX5_what_71 rfl ?_
            exact jv_iret (v := (-5)) X dX5_what_73 rfl hQ (Nat.le_of_ble_eq_true rfl) (Nat.le_of_ble_eq_true rfl) ⟨(by unfold wht; rw [if_neg c1_0];  rw [if_neg c1_1];  rw [if_neg c1_2];  rw [if_neg c1_3];  rw [if_neg c1_4]), rfl⟩
set_option maxHeartbeats 4000000 in
theorem c_X5_what_X9 {l : Launch} {G : jv_G} {M : jv_M} {a p v o g : Nat} (ha : M a = some (.inr (7, [.int (nI p), .int (nI v), .int (nI o), .int (nI g)]))) (w_ : Int32)  : jv_Ct G l yX5_what cX5_what 2 (some .int) 1 0 0 20 [.ref a, .int w_] M (jv_qi G (jv_pi (wht (nI 2) (nI p) (nI v) (nI o) (nI g) w_) M)) := by
  refine jv_Ct.of (lv := [(0, .ref a), (1, .int w_)]) (by decide) (Nat.le_of_ble_eq_true rfl) rfl ?_
  intro x Q_ hl_ hQ X
  subst hl_
  refine jv_iload_n X dX5_what_0 1 rfl ?_
  by_cases c1_0 : w_ = nI 0
  · skip
    refine jv_tableIn 36 X dX5_what_1 (by rw [c1_0]; decide) (by rw [c1_0]; decide) (by rw [c1_0]; rfl) (by decide) ?_
    subst c1_0
    refine jv_aload_n X dX5_what_36 0 rfl ?_
    refine jv_ask (jv_runU (As := []) (rest := []) X dX5_what_37 c_X9_kind (jv_cuA X (lw_U (x := yA_Rule_kind) q813 q815 q816 q817 q114 q818) q814 ⟨by decide, by decide⟩ hd_yA_Rule_kind (Nat.le_of_ble_eq_true rfl) (Nat.le_of_ble_eq_true rfl)) ha (show jv_cl[7]? = some (RX9, TX9, 4) from rfl) (Nat.le_of_ble_eq_true rfl) (Nat.le_of_ble_eq_true rfl) rfl (Nat.le_of_ble_eq_true rfl)) ?_
    refine jv_goto 73 X dX5_what_40 (by decide) ?_
    exact jv_iret (v := nI 2) X dX5_what_73 rfl hQ (Nat.le_of_ble_eq_true rfl) (Nat.le_of_ble_eq_true rfl) ⟨(by unfold wht; rw [if_pos rfl]), rfl⟩
  · skip
    by_cases c1_1 : w_ = nI 1
    · skip
      refine jv_tableIn 43 X dX5_what_1 (by rw [c1_1]; decide) (by rw [c1_1]; decide) (by rw [c1_1]; rfl) (by decide) ?_
      subst c1_1
      refine jv_aload_n X dX5_what_43 0 rfl ?_
      refine jv_get X dX5_what_44 ha (T := TX9) (N := 4) (C := RX9) rfl in_X9 0 (by decide) q701 rfl rfl ?_
      refine jv_goto 73 X dX5_what_47 (by decide) ?_
      exact jv_iret (v := nI p) X dX5_what_73 rfl hQ (Nat.le_of_ble_eq_true rfl) (Nat.le_of_ble_eq_true rfl) ⟨(by unfold wht; rw [if_neg c1_0];  rw [if_pos (by first | rfl | assumption)]), rfl⟩
    · skip
      by_cases c1_2 : w_ = nI 2
      · skip
        refine jv_tableIn 50 X dX5_what_1 (by rw [c1_2]; decide) (by rw [c1_2]; decide) (by rw [c1_2]; rfl) (by decide) ?_
        subst c1_2
        refine jv_aload_n X dX5_what_50 0 rfl ?_
        refine jv_get X dX5_what_51 ha (T := TX9) (N := 4) (C := RX9) rfl in_X9 1 (by decide) q706 rfl rfl ?_
        refine jv_goto 73 X dX5_what_54 (by decide) ?_
        exact jv_iret (v := nI v) X dX5_what_73 rfl hQ (Nat.le_of_ble_eq_true rfl) (Nat.le_of_ble_eq_true rfl) ⟨(by unfold wht; rw [if_neg c1_0];  rw [if_neg c1_1];  rw [if_pos (by first | rfl | assumption)]), rfl⟩
      · skip
        by_cases c1_3 : w_ = nI 3
        · skip
          refine jv_tableIn 57 X dX5_what_1 (by rw [c1_3]; decide) (by rw [c1_3]; decide) (by rw [c1_3]; rfl) (by decide) ?_
          subst c1_3
          refine jv_aload_n X dX5_what_57 0 rfl ?_
          refine jv_get X dX5_what_58 ha (T := TX9) (N := 4) (C := RX9) rfl in_X9 2 (by decide) q709 rfl rfl ?_
          refine jv_goto 73 X dX5_what_61 (by decide) ?_
          exact jv_iret (v := nI o) X dX5_what_73 rfl hQ (Nat.le_of_ble_eq_true rfl) (Nat.le_of_ble_eq_true rfl) ⟨(by unfold wht; rw [if_neg c1_0];  rw [if_neg c1_1];  rw [if_neg c1_2];  rw [if_pos (by first | rfl | assumption)]), rfl⟩
        · skip
          by_cases c1_4 : w_ = nI 4
          · skip
            refine jv_tableIn 64 X dX5_what_1 (by rw [c1_4]; decide) (by rw [c1_4]; decide) (by rw [c1_4]; rfl) (by decide) ?_
            subst c1_4
            refine jv_aload_n X dX5_what_64 0 rfl ?_
            refine jv_get X dX5_what_65 ha (T := TX9) (N := 4) (C := RX9) rfl in_X9 3 (by decide) q714 rfl rfl ?_
            refine jv_goto 73 X dX5_what_68 (by decide) ?_
            exact jv_iret (v := nI g) X dX5_what_73 rfl hQ (Nat.le_of_ble_eq_true rfl) (Nat.le_of_ble_eq_true rfl) ⟨(by unfold wht; rw [if_neg c1_0];  rw [if_neg c1_1];  rw [if_neg c1_2];  rw [if_neg c1_3];  rw [if_pos (by first | rfl | assumption)]), rfl⟩
          · skip
            refine jv_tableOut 71 X dX5_what_1 (jt_out5 c1_0 c1_1 c1_2 c1_3 c1_4) (by decide) ?_
            refine jv_bipush (v := (-5)) X dX5_what_71 rfl ?_
            exact jv_iret (v := (-5)) X dX5_what_73 rfl hQ (Nat.le_of_ble_eq_true rfl) (Nat.le_of_ble_eq_true rfl) ⟨(by unfold wht; rw [if_neg c1_0];  rw [if_neg c1_1];  rw [if_neg c1_2];  rw [if_neg c1_3];  rw [if_neg c1_4]), rfl⟩
set_option maxHeartbeats 4000000 in
theorem c_X5_what_X13 {l : Launch} {G : jv_G} {M : jv_M} {a e r : Nat} {f : Nat → Int32} {S : Nat → Nat} (ha : M a = some (.inr (11, [.int (-5), .int (-5), .int (-5), .int (-5), .ref e]))) (he : M e = some (.inl (G.2.2.1 0, 6, .inl f))) (hf : ∀ p, p < 6 → f p = sI (lsd S r p)) (w_ : Int32)  : jv_Ct G l yX5_what cX5_what 2 (some .int) 1 0 0 20 [.ref a, .int w_] M (jv_qi G (jv_pi (wht (nI 3) ((-5)) ((-5)) ((-5)) ((-5)) w_) M)) := by
  refine jv_Ct.of (lv := [(0, .ref a), (1, .int w_)]) (by decide) (Nat.le_of_ble_eq_true rfl) rfl ?_
  intro x Q_ hl_ hQ X
  subst hl_
  refine jv_iload_n X dX5_what_0 1 rfl ?_
  by_cases c1_0 : w_ = nI 0
  · skip
    refine jv_tableIn 36 X dX5_what_1 (by rw [c1_0]; decide) (by rw [c1_0]; decide) (by rw [c1_0]; rfl) (by decide) ?_
    subst c1_0
    refine jv_aload_n X dX5_what_36 0 rfl ?_
    refine jv_ask (jv_runU (As := []) (rest := []) X dX5_what_37 c_X13_kind (jv_cuA X (lw_U (x := yA_Rule_kind) q813 q815 q819 q820 q121 q821) q814 ⟨by decide, by decide⟩ hd_yA_Rule_kind (Nat.le_of_ble_eq_true rfl) (Nat.le_of_ble_eq_true rfl)) ha (show jv_cl[11]? = some (RX13, TX13, 5) from rfl) (Nat.le_of_ble_eq_true rfl) (Nat.le_of_ble_eq_true rfl) rfl (Nat.le_of_ble_eq_true rfl)) ?_
    refine jv_goto 73 X dX5_what_40 (by decide) ?_
    exact jv_iret (v := nI 3) X dX5_what_73 rfl hQ (Nat.le_of_ble_eq_true rfl) (Nat.le_of_ble_eq_true rfl) ⟨(by unfold wht; rw [if_pos rfl]), rfl⟩
  · skip
    by_cases c1_1 : w_ = nI 1
    · skip
      refine jv_tableIn 43 X dX5_what_1 (by rw [c1_1]; decide) (by rw [c1_1]; decide) (by rw [c1_1]; rfl) (by decide) ?_
      subst c1_1
      refine jv_aload_n X dX5_what_43 0 rfl ?_
      refine jv_get X dX5_what_44 ha (T := TX13) (N := 5) (C := RX13) rfl in_X13 0 (by decide) q701 rfl rfl ?_
      refine jv_goto 73 X dX5_what_47 (by decide) ?_
      exact jv_iret (v := (-5)) X dX5_what_73 rfl hQ (Nat.le_of_ble_eq_true rfl) (Nat.le_of_ble_eq_true rfl) ⟨(by unfold wht; rw [if_neg c1_0];  rw [if_pos (by first | rfl | assumption)]), rfl⟩
    · skip
      by_cases c1_2 : w_ = nI 2
      · skip
        refine jv_tableIn 50 X dX5_what_1 (by rw [c1_2]; decide) (by rw [c1_2]; decide) (by rw [c1_2]; rfl) (by decide) ?_
        subst c1_2
        refine jv_aload_n X dX5_what_50 0 rfl ?_
        refine jv_get X dX5_what_51 ha (T := TX13) (N := 5) (C := RX13) rfl in_X13 1 (by decide) q706 rfl rfl ?_
        refine jv_goto 73 X dX5_what_54 (by decide) ?_
        exact jv_iret (v := (-5)) X dX5_what_73 rfl hQ (Nat.le_of_ble_eq_true rfl) (Nat.le_of_ble_eq_true rfl) ⟨(by unfold wht; rw [if_neg c1_0];  rw [if_neg c1_1];  rw [if_pos (by first | rfl | assumption)]), rfl⟩
      · skip
        by_cases c1_3 : w_ = nI 3
        · skip
          refine jv_tableIn 57 X dX5_what_1 (by rw [c1_3]; decide) (by rw [c1_3]; decide) (by rw [c1_3]; rfl) (by decide) ?_
          subst c1_3
          refine jv_aload_n X dX5_what_57 0 rfl ?_
          refine jv_get X dX5_what_58 ha (T := TX13) (N := 5) (C := RX13) rfl in_X13 2 (by decide) q709 rfl rfl ?_
          refine jv_goto 73 X dX5_what_61 (by decide) ?_
          exact jv_iret (v := (-5)) X dX5_what_73 rfl hQ (Nat.le_of_ble_eq_true rfl) (Nat.le_of_ble_eq_true rfl) ⟨(by unfold wht; rw [if_neg c1_0];  rw [if_neg c1_1];  rw [if_neg c1_2];  rw [if_pos (by first | rfl | assumption)]), rfl⟩
        · skip
          by_cases c1_4 : w_ = nI 4
          · skip
            refine jv_tableIn 64 X dX5_what_1 (by rw [c1_4]; decide) (by rw [c1_4]; decide) (by rw [c1_4]; rfl) (by decide) ?_
            subst c1_4
            refine jv_aload_n X dX5_what_64 0 rfl ?_
            refine jv_get X dX5_what_65 ha (T := TX13) (N := 5) (C := RX13) rfl in_X13 3 (by decide) q714 rfl rfl ?_
            refine jv_goto 73 X dX5_what_68 (by decide) ?_
            exact jv_iret (v := (-5)) X dX5_what_73 rfl hQ (Nat.le_of_ble_eq_true rfl) (Nat.le_of_ble_eq_true rfl) ⟨(by unfold wht; rw [if_neg c1_0];  rw [if_neg c1_1];  rw [if_neg c1_2];  rw [if_neg c1_3];  rw [if_pos (by first | rfl | assumption)]), rfl⟩
          · skip
            refine jv_tableOut 71 X dX5_what_1 (jt_out5 c1_0 c1_1 c1_2 c1_3 c1_4) (by decide) ?_
            refine jv_bipush (v := (-5)) X dX5_what_71 rfl ?_
            exact jv_iret (v := (-5)) X dX5_what_73 rfl hQ (Nat.le_of_ble_eq_true rfl) (Nat.le_of_ble_eq_true rfl) ⟨(by unfold wht; rw [if_neg c1_0];  rw [if_neg c1_1];  rw [if_neg c1_2];  rw [if_neg c1_3];  rw [if_neg c1_4]), rfl⟩
theorem hd_X5_stateOf : jv_dd yX5_stateOf 1 := by unfold jv_dd; decide +kernel
set_option maxHeartbeats 4000000 in
theorem c_X5_stateOf {l : Launch} {G : jv_G} {M : jv_M} {a : Nat} (w_ : Int32)  : jv_Ct G l yX5_stateOf cX5_stateOf 2 (some .int) 0 0 0 0 [.ref a, .int w_] M (jv_qi G (jv_pi ((-5)) M)) := by
  refine jv_Ct.of (lv := [(0, .ref a), (1, .int w_)]) (by decide) (Nat.le_of_ble_eq_true rfl) rfl ?_
  intro x Q_ hl_ hQ X
  subst hl_
  refine jv_bipush (v := (-5)) X dX5_stateOf_0 rfl ?_
  exact jv_iret (v := (-5)) X dX5_stateOf_2 rfl hQ (Nat.le_of_ble_eq_true rfl) (Nat.le_of_ble_eq_true rfl) ⟨rfl, rfl⟩
theorem hd_X5_isOf : jv_dd yX5_isOf 2 := by unfold jv_dd; decide +kernel
set_option maxHeartbeats 4000000 in
theorem c_X5_isOf {l : Launch} {G : jv_G} {M : jv_M} {a : Nat} (u : Int32) (w_ : Int32)  : jv_Ct G l yX5_isOf cX5_isOf 3 (some .boolean) 0 0 0 0 [.ref a, .int u, .int w_] M (jv_qi G (jv_pi (bI false) M)) := by
  refine jv_Ct.of (lv := [(0, .ref a), (1, .int u), (2, .int w_)]) (by decide) (Nat.le_of_ble_eq_true rfl) rfl ?_
  intro x Q_ hl_ hQ X
  subst hl_
  refine jv_iconst (v := nI 0) X dX5_isOf_0 rfl ?_
  exact jv_iret (v := bI false) X dX5_isOf_1 (bI_nar _) hQ (Nat.le_of_ble_eq_true rfl) (Nat.le_of_ble_eq_true rfl) ⟨rfl, rfl⟩
theorem hd_X5_reaches : jv_dd yX5_reaches 2 := by unfold jv_dd; decide +kernel
set_option maxHeartbeats 4000000 in
theorem c_X5_reaches {l : Launch} {G : jv_G} {M : jv_M} {a : Nat} (u : Int32) (w_ : Int32)  : jv_Ct G l yX5_reaches cX5_reaches 3 (some .int) 0 0 0 0 [.ref a, .int u, .int w_] M (jv_qi G (jv_pi ((-1)) M)) := by
  refine jv_Ct.of (lv := [(0, .ref a), (1, .int u), (2, .int w_)]) (by decide) (Nat.le_of_ble_eq_true rfl) rfl ?_
  intro x Q_ hl_ hQ X
  subst hl_
  refine jv_iconst (v := (-1)) X dX5_reaches_0 rfl ?_
  exact jv_iret (v := (-1)) X dX5_reaches_1 rfl hQ (Nat.le_of_ble_eq_true rfl) (Nat.le_of_ble_eq_true rfl) ⟨rfl, rfl⟩
theorem hd_X5_wanted : jv_dd yX5_wanted 0 := by unfold jv_dd; decide +kernel
set_option maxHeartbeats 4000000 in
theorem c_X5_wanted {l : Launch} {G : jv_G} {M : jv_M} {a : Nat}   : jv_Ct G l yX5_wanted cX5_wanted 1 (some .int) 0 0 0 0 [.ref a] M (jv_qi G (jv_pi ((-1)) M)) := by
  refine jv_Ct.of (lv := [(0, .ref a)]) (by decide) (Nat.le_of_ble_eq_true rfl) rfl ?_
  intro x Q_ hl_ hQ X
  subst hl_
  refine jv_iconst (v := (-1)) X dX5_wanted_0 rfl ?_
  exact jv_iret (v := (-1)) X dX5_wanted_1 rfl hQ (Nat.le_of_ble_eq_true rfl) (Nat.le_of_ble_eq_true rfl) ⟨rfl, rfl⟩
theorem hd_X6_ranged : jv_dd yX6_ranged 0 := by unfold jv_dd; decide +kernel
set_option maxHeartbeats 4000000 in
theorem c_X6_ranged {l : Launch} {G : jv_G} {M : jv_M} {a p g : Nat} (ha : M a = some (.inr (5, [.int (nI p), .int (-5), .int (-5), .int (nI g)])))   : jv_Ct G l yX6_ranged cX6_ranged 1 (some .int) 0 0 0 0 [.ref a] M (jv_qi G (jv_pi (nI p) M)) := by
  refine jv_Ct.of (lv := [(0, .ref a)]) (by decide) (Nat.le_of_ble_eq_true rfl) rfl ?_
  intro x Q_ hl_ hQ X
  subst hl_
  refine jv_aload_n X dX6_ranged_0 0 rfl ?_
  refine jv_getS X dX6_ranged_1 ha (T := TX6) (N := 4) (C := RX6) rfl in_X6 0 (by decide) q702 q703 rfl ?_
  exact jv_iret (v := nI p) X dX6_ranged_4 rfl hQ (Nat.le_of_ble_eq_true rfl) (Nat.le_of_ble_eq_true rfl) ⟨rfl, rfl⟩
theorem hd_X6_last : jv_dd yX6_last 0 := by unfold jv_dd; decide +kernel
set_option maxHeartbeats 4000000 in
theorem c_X6_last {l : Launch} {G : jv_G} {M : jv_M} {a p g : Nat} (ha : M a = some (.inr (5, [.int (nI p), .int (-5), .int (-5), .int (nI g)])))   : jv_Ct G l yX6_last cX6_last 1 (some .int) 0 0 0 0 [.ref a] M (jv_qi G (jv_pi (nI p) M)) := by
  refine jv_Ct.of (lv := [(0, .ref a)]) (by decide) (Nat.le_of_ble_eq_true rfl) rfl ?_
  intro x Q_ hl_ hQ X
  subst hl_
  refine jv_aload_n X dX6_last_0 0 rfl ?_
  refine jv_getS X dX6_last_1 ha (T := TX6) (N := 4) (C := RX6) rfl in_X6 0 (by decide) q702 q703 rfl ?_
  exact jv_iret (v := nI p) X dX6_last_4 rfl hQ (Nat.le_of_ble_eq_true rfl) (Nat.le_of_ble_eq_true rfl) ⟨rfl, rfl⟩
theorem hd_X6_wanted : jv_dd yX6_wanted 0 := by unfold jv_dd; decide +kernel
set_option maxHeartbeats 4000000 in
theorem c_X6_wanted {l : Launch} {G : jv_G} {M : jv_M} {a p g : Nat} (ha : M a = some (.inr (5, [.int (nI p), .int (-5), .int (-5), .int (nI g)])))   : jv_Ct G l yX6_wanted cX6_wanted 1 (some .int) 0 0 0 0 [.ref a] M (jv_qi G (jv_pi (nI p) M)) := by
  refine jv_Ct.of (lv := [(0, .ref a)]) (by decide) (Nat.le_of_ble_eq_true rfl) rfl ?_
  intro x Q_ hl_ hQ X
  subst hl_
  refine jv_aload_n X dX6_wanted_0 0 rfl ?_
  refine jv_getS X dX6_wanted_1 ha (T := TX6) (N := 4) (C := RX6) rfl in_X6 0 (by decide) q702 q703 rfl ?_
  exact jv_iret (v := nI p) X dX6_wanted_4 rfl hQ (Nat.le_of_ble_eq_true rfl) (Nat.le_of_ble_eq_true rfl) ⟨rfl, rfl⟩
theorem hd_X6_conditions : jv_dd yX6_conditions 1 := by unfold jv_dd; decide +kernel
set_option maxHeartbeats 4000000 in
theorem c_X6_conditions {l : Launch} {G : jv_G} {M : jv_M} {a : Nat} (t_ : Nat)  : jv_Ct G l yX6_conditions cX6_conditions 2 (some .int) 0 0 0 0 [.ref a, .int (nI t_)] M (jv_qi G (jv_pi (nI 0) M)) := by
  refine jv_Ct.of (lv := [(0, .ref a), (1, .int (nI t_))]) (by decide) (Nat.le_of_ble_eq_true rfl) rfl ?_
  intro x Q_ hl_ hQ X
  subst hl_
  refine jv_iconst (v := nI 0) X dX6_conditions_0 rfl ?_
  exact jv_iret (v := nI 0) X dX6_conditions_1 rfl hQ (Nat.le_of_ble_eq_true rfl) (Nat.le_of_ble_eq_true rfl) ⟨rfl, rfl⟩
theorem hd_X6_impossible : jv_dd yX6_impossible 3 := by unfold jv_dd; decide +kernel
set_option maxHeartbeats 4000000 in
theorem c_X6_impossible {l : Launch} {G : jv_G} {M : jv_M} {a h : Nat} (mk : Int32) (t_ : Nat)  : jv_Ct G l yX6_impossible cX6_impossible 4 (some .int) 0 0 0 0 [.ref a, .int mk, .ref h, .int (nI t_)] M (jv_qi G (jv_pi (mk ^^^ (-1)) M)) := by
  refine jv_Ct.of (lv := [(0, .ref a), (1, .int mk), (2, .ref h), (3, .int (nI t_))]) (by decide) (Nat.le_of_ble_eq_true rfl) rfl ?_
  intro x Q_ hl_ hQ X
  subst hl_
  refine jv_iload_n X dX6_impossible_0 1 rfl ?_
  refine jv_iconst (v := (-1)) X dX6_impossible_1 rfl ?_
  refine jv_ixor (w := mk ^^^ (-1)) X dX6_impossible_2 rfl ?_
  exact jv_iret (v := mk ^^^ (-1)) X dX6_impossible_3 rfl hQ (Nat.le_of_ble_eq_true rfl) (Nat.le_of_ble_eq_true rfl) ⟨rfl, rfl⟩
theorem hd_X6_isKept : jv_dd yX6_isKept 2 := by unfold jv_dd; decide +kernel
set_option maxHeartbeats 4000000 in
theorem c_X6_isKept {l : Launch} {G : jv_G} {M : jv_M} {h : Nat} {fl : Nat → Int32} {lf : Nat → Nat} (hh : M h = some (.inl (G.2.2.1 0, 6, .inl fl))) (hl : ∀ p, p < 6 → fl p = nI (lf p)) {a p g : Nat} (ha : M a = some (.inr (5, [.int (nI p), .int (-5), .int (-5), .int (nI g)]))) (mk : Int32) (hp6 : p < 6) : jv_Ct G l yX6_isKept cX6_isKept 3 (some .boolean) 1 0 0 21 [.ref a, .int mk, .ref h] M (jv_qi G (jv_pi (bI (hasI mk (nI (lf p)))) M)) := by
  refine jv_Ct.of (lv := [(0, .ref a), (1, .int mk), (2, .ref h)]) (by decide) (Nat.le_of_ble_eq_true rfl) rfl ?_
  intro x Q_ hl_ hQ X
  subst hl_
  refine jv_iload_n X dX6_isKept_0 1 rfl ?_
  refine jv_aload_n X dX6_isKept_1 2 rfl ?_
  refine jv_aload_n X dX6_isKept_2 0 rfl ?_
  refine jv_getS X dX6_isKept_3 ha (T := TX6) (N := 4) (C := RX6) rfl in_X6 0 (by decide) q702 q703 rfl ?_
  refine jv_iald (v := nI (lf p)) X dX6_isKept_6 hh (jn_in (by omega) (by decide)) (by rw [nI_clamp (by omega)]; exact (hl _ (by omega))) ?_
  refine jv_ask (jv_runSN (As := [.int mk, .int (nI (lf p))]) (rest := []) X dX6_isKept_7 (c_X0_has mk (nI (lf p))) (lw_meth q678) q1326 q90 q677 hd_X0_has (Nat.le_of_ble_eq_true rfl) (Nat.le_of_ble_eq_true rfl) (Nat.le_of_ble_eq_true rfl) (Nat.le_of_ble_eq_true rfl) rfl (Nat.le_of_ble_eq_true rfl)) ?_
  exact jv_iret (v := bI (hasI mk (nI (lf p)))) X dX6_isKept_10 (bI_nar _) hQ (Nat.le_of_ble_eq_true rfl) (Nat.le_of_ble_eq_true rfl) ⟨rfl, rfl⟩
theorem hd_X8_lets : jv_dd yX8_lets 1 := by unfold jv_dd; decide +kernel
set_option maxHeartbeats 4000000 in
theorem c_X8_lets {l : Launch} {G : jv_G} {M : jv_M} {a : Nat} (mk : Int32)  : jv_Ct G l yX8_lets cX8_lets 2 (some .int) 0 0 0 0 [.ref a, .int mk] M (jv_qi G (jv_pi (mk) M)) := by
  refine jv_Ct.of (lv := [(0, .ref a), (1, .int mk)]) (by decide) (Nat.le_of_ble_eq_true rfl) rfl ?_
  intro x Q_ hl_ hQ X
  subst hl_
  refine jv_iload_n X dX8_lets_0 1 rfl ?_
  exact jv_iret (v := mk) X dX8_lets_1 rfl hQ (Nat.le_of_ble_eq_true rfl) (Nat.le_of_ble_eq_true rfl) ⟨rfl, rfl⟩
theorem hd_X9_lets : jv_dd yX9_lets 1 := by unfold jv_dd; decide +kernel
set_option maxHeartbeats 4000000 in
theorem c_X9_lets {l : Launch} {G : jv_G} {M : jv_M} {a : Nat} (mk : Int32)  : jv_Ct G l yX9_lets cX9_lets 2 (some .int) 0 0 0 0 [.ref a, .int mk] M (jv_qi G (jv_pi (mk ^^^ (-1)) M)) := by
  refine jv_Ct.of (lv := [(0, .ref a), (1, .int mk)]) (by decide) (Nat.le_of_ble_eq_true rfl) rfl ?_
  intro x Q_ hl_ hQ X
  subst hl_
  refine jv_iload_n X dX9_lets_0 1 rfl ?_
  refine jv_iconst (v := (-1)) X dX9_lets_1 rfl ?_
  refine jv_ixor (w := mk ^^^ (-1)) X dX9_lets_2 rfl ?_
  exact jv_iret (v := mk ^^^ (-1)) X dX9_lets_3 rfl hQ (Nat.le_of_ble_eq_true rfl) (Nat.le_of_ble_eq_true rfl) ⟨rfl, rfl⟩
theorem hd_X7_ranged : jv_dd yX7_ranged 0 := by unfold jv_dd; decide +kernel
set_option maxHeartbeats 4000000 in
theorem c_X7_ranged_X8 {l : Launch} {G : jv_G} {M : jv_M} {a p v o g : Nat} (ha : M a = some (.inr (6, [.int (nI p), .int (nI v), .int (nI o), .int (nI g)])))   : jv_Ct G l yX7_ranged cX7_ranged 1 (some .int) 0 0 0 0 [.ref a] M (jv_qi G (jv_pi (nI o) M)) := by
  refine jv_Ct.of (lv := [(0, .ref a)]) (by decide) (Nat.le_of_ble_eq_true rfl) rfl ?_
  intro x Q_ hl_ hQ X
  subst hl_
  refine jv_aload_n X dX7_ranged_0 0 rfl ?_
  refine jv_getS X dX7_ranged_1 ha (T := TX8) (N := 4) (C := RX8) rfl in_X8 2 (by decide) q710 q711 rfl ?_
  exact jv_iret (v := nI o) X dX7_ranged_4 rfl hQ (Nat.le_of_ble_eq_true rfl) (Nat.le_of_ble_eq_true rfl) ⟨rfl, rfl⟩
theorem hd_X7_isOf : jv_dd yX7_isOf 2 := by unfold jv_dd; decide +kernel
set_option maxHeartbeats 4000000 in
theorem c_X7_isOf_X8 {l : Launch} {G : jv_G} {M : jv_M} {a p v o g : Nat} (ha : M a = some (.inr (6, [.int (nI p), .int (nI v), .int (nI o), .int (nI g)]))) (u : Nat) (w_ : Nat) (hp6 : p < 6) (hv6 : v < 6) (hu : u < 2 ^ 31) (hw : w_ < 2 ^ 31) : jv_Ct G l yX7_isOf cX7_isOf 3 (some .boolean) 0 0 0 0 [.ref a, .int (nI u), .int (nI w_)] M (jv_qi G (jv_pi (bI (decide (p = u) && decide (v = w_))) M)) := by
  refine jv_Ct.of (lv := [(0, .ref a), (1, .int (nI u)), (2, .int (nI w_))]) (by decide) (Nat.le_of_ble_eq_true rfl) rfl ?_
  intro x Q_ hl_ hQ X
  subst hl_
  refine jv_aload_n X dX7_isOf_0 0 rfl ?_
  refine jv_getS X dX7_isOf_1 ha (T := TX8) (N := 4) (C := RX8) rfl in_X8 0 (by decide) q704 q705 rfl ?_
  refine jv_iload_n X dX7_isOf_4 1 rfl ?_
  have j21_1 : ∀ ww : Bool, ww = (if p = u then (if v = w_ then true else false) else false) → jv_J x G 3 Q_ M 0 0 21 [(0, .ref a), (1, .int (nI u)), (2, .int (nI w_))] [.int (bI ww)] := by
    intro ww e_ww
    exact jv_iret (v := bI ww) X dX7_isOf_21 (bI_nar _) hQ (Nat.le_of_ble_eq_true rfl) (Nat.le_of_ble_eq_true rfl) ⟨(by rw [e_ww]; by_cases h1 : p = u <;> by_cases h2 : v = w_ <;> simp [h1, h2]), rfl⟩
  refine jn_icmp_ne 20 X dX7_isOf_5 (by decide) (by omega) (by omega) (fun c5 => ?_) (fun c5 => ?_)
  · skip
    refine jv_iconst (v := nI 0) X dX7_isOf_20 rfl ?_
    exact j21_1 _ (if_neg c5).symm
  · skip
    refine jv_aload_n X dX7_isOf_8 0 rfl ?_
    refine jv_getS X dX7_isOf_9 ha (T := TX8) (N := 4) (C := RX8) rfl in_X8 1 (by decide) q707 q708 rfl ?_
    refine jv_iload_n X dX7_isOf_12 2 rfl ?_
    refine jn_icmp_ne 20 X dX7_isOf_13 (by decide) (by omega) (by omega) (fun c13 => ?_) (fun c13 => ?_)
    · skip
      refine jv_iconst (v := nI 0) X dX7_isOf_20 rfl ?_
      exact j21_1 _ ((if_pos c5).trans (if_neg c13)).symm
    · skip
      refine jv_iconst (v := nI 1) X dX7_isOf_16 rfl ?_
      refine jv_goto 21 X dX7_isOf_17 (by decide) ?_
      exact j21_1 _ ((if_pos c5).trans (if_pos c13)).symm
theorem hd_X7_conditions : jv_dd yX7_conditions 1 := by unfold jv_dd; decide +kernel
set_option maxHeartbeats 4000000 in
theorem c_X7_conditions_X8 {l : Launch} {G : jv_G} {M : jv_M} {a p v o g : Nat} (ha : M a = some (.inr (6, [.int (nI p), .int (nI v), .int (nI o), .int (nI g)]))) (t_ : Nat) (hp6 : p < 6) (ho6 : o < 6) (ht : t_ < 2 ^ 31) : jv_Ct G l yX7_conditions cX7_conditions 2 (some .int) 0 0 0 0 [.ref a, .int (nI t_)] M (jv_qi G (jv_pi (nI (if t_ = p then 2 ^ o else 2 ^ p)) M)) := by
  refine jv_Ct.of (lv := [(0, .ref a), (1, .int (nI t_))]) (by decide) (Nat.le_of_ble_eq_true rfl) rfl ?_
  intro x Q_ hl_ hQ X
  subst hl_
  refine jv_iload_n X dX7_conditions_0 1 rfl ?_
  refine jv_aload_n X dX7_conditions_1 0 rfl ?_
  refine jv_getS X dX7_conditions_2 ha (T := TX8) (N := 4) (C := RX8) rfl in_X8 0 (by decide) q704 q705 rfl ?_
  have j23_1 : ∀ w : Nat, w = (if t_ = p then (2 ^ o) else (2 ^ p)) → jv_J x G 2 Q_ M 0 0 23 [(0, .ref a), (1, .int (nI t_))] [.int (nI w)] := by
    intro w e_w
    exact jv_iret (v := nI w) X dX7_conditions_23 rfl hQ (Nat.le_of_ble_eq_true rfl) (Nat.le_of_ble_eq_true rfl) ⟨(congrArg nI e_w), rfl⟩
  refine jn_icmp_ne 17 X dX7_conditions_5 (by decide) (by omega) (by omega) (fun c5 => ?_) (fun c5 => ?_)
  · skip
    refine jv_iconst (v := nI 1) X dX7_conditions_17 rfl ?_
    refine jv_aload_n X dX7_conditions_18 0 rfl ?_
    refine jv_getS X dX7_conditions_19 ha (T := TX8) (N := 4) (C := RX8) rfl in_X8 0 (by decide) q704 q705 rfl ?_
    refine jv_ishl (w := nI (2 ^ p)) X dX7_conditions_22 (ni_shl1 (by omega)) ?_
    exact j23_1 _ (if_neg c5).symm
  · skip
    refine jv_iconst (v := nI 1) X dX7_conditions_8 rfl ?_
    refine jv_aload_n X dX7_conditions_9 0 rfl ?_
    refine jv_getS X dX7_conditions_10 ha (T := TX8) (N := 4) (C := RX8) rfl in_X8 2 (by decide) q710 q711 rfl ?_
    refine jv_ishl (w := nI (2 ^ o)) X dX7_conditions_13 (ni_shl1 (by omega)) ?_
    refine jv_goto 23 X dX7_conditions_14 (by decide) ?_
    exact j23_1 _ (if_pos c5).symm
theorem hd_X7_last : jv_dd yX7_last 0 := by unfold jv_dd; decide +kernel
set_option maxHeartbeats 4000000 in
theorem c_X7_last_X8 {l : Launch} {G : jv_G} {M : jv_M} {a p v o g : Nat} (ha : M a = some (.inr (6, [.int (nI p), .int (nI v), .int (nI o), .int (nI g)])))  (hp6 : p < 6) (ho6 : o < 6) : jv_Ct G l yX7_last cX7_last 1 (some .int) 1 0 0 30 [.ref a] M (jv_qi G (jv_pi (nI (if o ≤ p then p else o)) M)) := by
  refine jv_Ct.of (lv := [(0, .ref a)]) (by decide) (Nat.le_of_ble_eq_true rfl) rfl ?_
  intro x Q_ hl_ hQ X
  subst hl_
  refine jv_aload_n X dX7_last_0 0 rfl ?_
  refine jv_getS X dX7_last_1 ha (T := TX8) (N := 4) (C := RX8) rfl in_X8 0 (by decide) q704 q705 rfl ?_
  refine jv_aload_n X dX7_last_4 0 rfl ?_
  refine jv_getS X dX7_last_5 ha (T := TX8) (N := 4) (C := RX8) rfl in_X8 2 (by decide) q710 q711 rfl ?_
  refine jv_mmax (w := nI (if o ≤ p then p else o)) X dX7_last_8 q1304 q444 q104 q445 (Nat.le_of_ble_eq_true rfl) (Nat.le_of_ble_eq_true rfl) (Nat.le_of_ble_eq_true rfl) (Nat.le_of_ble_eq_true rfl) (mx_n (by omega) (by omega)) ?_
  exact jv_iret (v := nI (if o ≤ p then p else o)) X dX7_last_11 rfl hQ (Nat.le_of_ble_eq_true rfl) (Nat.le_of_ble_eq_true rfl) ⟨rfl, rfl⟩
theorem hd_X7_isKept : jv_dd yX7_isKept 2 := by unfold jv_dd; decide +kernel
set_option maxHeartbeats 4000000 in
theorem c_X7_isKept_X8 {l : Launch} {G : jv_G} {M : jv_M} {h : Nat} {fl : Nat → Int32} {lf : Nat → Nat} (hh : M h = some (.inl (G.2.2.1 0, 6, .inl fl))) (hl : ∀ p, p < 6 → fl p = nI (lf p)) {a p v o g : Nat} (ha : M a = some (.inr (6, [.int (nI p), .int (nI v), .int (nI o), .int (nI g)]))) (mk : Int32) (hp6 : p < 6) (hv6 : v < 6) (ho6 : o < 6) (hl6 : ∀ p, p < 6 → lf p < 64) : jv_Ct G l yX7_isKept cX7_isKept 3 (some .boolean) 1 0 0 21 [.ref a, .int mk, .ref h] M (jv_qi G (jv_pi (bI (if lf p = v then hasI (mk) (nI (lf o)) else true)) M)) := by
  refine jv_Ct.of (lv := [(0, .ref a), (1, .int mk), (2, .ref h)]) (by decide) (Nat.le_of_ble_eq_true rfl) rfl ?_
  intro x Q_ hl_ hQ X
  subst hl_
  refine jv_aload_n X dX7_isKept_0 2 rfl ?_
  refine jv_aload_n X dX7_isKept_1 0 rfl ?_
  refine jv_getS X dX7_isKept_2 ha (T := TX8) (N := 4) (C := RX8) rfl in_X8 0 (by decide) q704 q705 rfl ?_
  refine jv_iald (v := nI (lf p)) X dX7_isKept_5 hh (jn_in (by omega) (by decide)) (by rw [nI_clamp (by omega)]; exact (hl _ (by omega))) ?_
  refine jv_aload_n X dX7_isKept_6 0 rfl ?_
  refine jv_getS X dX7_isKept_7 ha (T := TX8) (N := 4) (C := RX8) rfl in_X8 1 (by decide) q707 q708 rfl ?_
  refine jn_icmp_ne 30 X dX7_isKept_10 (by decide) (by have := hl6 p hp6; omega) (by omega) (fun c10 => ?_) (fun c10 => ?_)
  · skip
    refine jv_iconst (v := nI 1) X dX7_isKept_30 rfl ?_
    refine jv_goto 35 X dX7_isKept_31 (by decide) ?_
    exact jv_iret (v := bI true) X dX7_isKept_35 (bI_nar _) hQ (Nat.le_of_ble_eq_true rfl) (Nat.le_of_ble_eq_true rfl) ⟨(by simp [c10]), rfl⟩
  · skip
    refine jv_aload_n X dX7_isKept_13 0 rfl ?_
    refine jv_iload_n X dX7_isKept_14 1 rfl ?_
    refine jv_ask (jv_runU (As := [.int mk]) (rest := []) X dX7_isKept_15 (c_X8_lets mk) (jv_cuA X (lw_U (x := yA_Tie_lets) q945 q947 q951 q952 q113 q953) q946 ⟨by decide, by decide⟩ hd_yA_Tie_lets (Nat.le_of_ble_eq_true rfl) (Nat.le_of_ble_eq_true rfl)) ha (show jv_cl[6]? = some (RX8, TX8, 4) from rfl) (Nat.le_of_ble_eq_true rfl) (Nat.le_of_ble_eq_true rfl) rfl (Nat.le_of_ble_eq_true rfl)) ?_
    refine jv_aload_n X dX7_isKept_18 2 rfl ?_
    refine jv_aload_n X dX7_isKept_19 0 rfl ?_
    refine jv_getS X dX7_isKept_20 ha (T := TX8) (N := 4) (C := RX8) rfl in_X8 2 (by decide) q710 q711 rfl ?_
    refine jv_iald (v := nI (lf o)) X dX7_isKept_23 hh (jn_in (by omega) (by decide)) (by rw [nI_clamp (by omega)]; exact (hl _ (by omega))) ?_
    refine jv_ask (jv_runSN (As := [.int mk, .int (nI (lf o))]) (rest := []) X dX7_isKept_24 (c_X0_has mk (nI (lf o))) (lw_meth q678) q1318 q90 q677 hd_X0_has (Nat.le_of_ble_eq_true rfl) (Nat.le_of_ble_eq_true rfl) (Nat.le_of_ble_eq_true rfl) (Nat.le_of_ble_eq_true rfl) rfl (Nat.le_of_ble_eq_true rfl)) ?_
    have j35_1 : ∀ ww : Bool, ww = (if (hasI mk (nI (lf o))) = true then true else false) → jv_J x G 3 Q_ M 0 0 35 [(0, .ref a), (1, .int mk), (2, .ref h)] [.int (bI ww)] := by
      intro ww e_ww
      exact jv_iret (v := bI ww) X dX7_isKept_35 (bI_nar _) hQ (Nat.le_of_ble_eq_true rfl) (Nat.le_of_ble_eq_true rfl) ⟨(by simp [c10, e_ww]), rfl⟩
    refine jb_if_eq 34 X dX7_isKept_27 (by decide) (fun c27 => ?_) (fun c27 => ?_)
    · skip
      refine jv_iconst (v := nI 0) X dX7_isKept_34 rfl ?_
      exact j35_1 _ (if_neg (Bool.eq_false_iff.mp c27)).symm
    · skip
      refine jv_iconst (v := nI 1) X dX7_isKept_30 rfl ?_
      refine jv_goto 35 X dX7_isKept_31 (by decide) ?_
      exact j35_1 _ (if_pos c27).symm
theorem hd_X7_impossible : jv_dd yX7_impossible 3 := by unfold jv_dd; decide +kernel
set_option maxHeartbeats 4000000 in
theorem c_X7_impossible_X8 {l : Launch} {G : jv_G} {M : jv_M} {h : Nat} {fl : Nat → Int32} {lf : Nat → Nat} (hh : M h = some (.inl (G.2.2.1 0, 6, .inl fl))) (hl : ∀ p, p < 6 → fl p = nI (lf p)) {a p v o g : Nat} (ha : M a = some (.inr (6, [.int (nI p), .int (nI v), .int (nI o), .int (nI g)]))) (mk : Int32) (t_ : Nat) (hp6 : p < 6) (hv6 : v < 6) (ho6 : o < 6) (ht : t_ < 6) (hl6 : ∀ p, p < 6 → lf p < 64) : jv_Ct G l yX7_impossible cX7_impossible 4 (some .int) 1 0 0 21 [.ref a, .int mk, .ref h, .int (nI t_)] M (jv_qi G (jv_pi ((if t_ = o then (if lf p = 2 ^ v then (mk) ^^^ (-1) else nI 0) else (if nI (lf o) &&& (mk) = 0 then nI (2 ^ v) else nI 0))) M)) := by
  refine jv_Ct.of (lv := [(0, .ref a), (1, .int mk), (2, .ref h), (3, .int (nI t_))]) (by decide) (Nat.le_of_ble_eq_true rfl) rfl ?_
  intro x Q_ hl_ hQ X
  subst hl_
  refine jv_iload_n X dX7_impossible_0 3 rfl ?_
  refine jv_aload_n X dX7_impossible_1 0 rfl ?_
  refine jv_getS X dX7_impossible_2 ha (T := TX8) (N := 4) (C := RX8) rfl in_X8 2 (by decide) q710 q711 rfl ?_
  refine jn_icmp_ne 35 X dX7_impossible_5 (by decide) (by omega) (by omega) (fun c5 => ?_) (fun c5 => ?_)
  · skip
    refine jv_aload_n X dX7_impossible_35 2 rfl ?_
    refine jv_aload_n X dX7_impossible_36 0 rfl ?_
    refine jv_getS X dX7_impossible_37 ha (T := TX8) (N := 4) (C := RX8) rfl in_X8 2 (by decide) q710 q711 rfl ?_
    refine jv_iald (v := nI (lf o)) X dX7_impossible_40 hh (jn_in (by omega) (by decide)) (by rw [nI_clamp (by omega)]; exact (hl _ (by omega))) ?_
    refine jv_aload_n X dX7_impossible_41 0 rfl ?_
    refine jv_iload_n X dX7_impossible_42 1 rfl ?_
    refine jv_ask (jv_runU (As := [.int mk]) (rest := [.int (nI (lf o))]) X dX7_impossible_43 (c_X8_lets mk) (jv_cuA X (lw_U (x := yA_Tie_lets) q945 q947 q951 q952 q113 q953) q946 ⟨by decide, by decide⟩ hd_yA_Tie_lets (Nat.le_of_ble_eq_true rfl) (Nat.le_of_ble_eq_true rfl)) ha (show jv_cl[6]? = some (RX8, TX8, 4) from rfl) (Nat.le_of_ble_eq_true rfl) (Nat.le_of_ble_eq_true rfl) rfl (Nat.le_of_ble_eq_true rfl)) ?_
    refine jv_iand (w := (nI (lf o)) &&& mk) X dX7_impossible_46 rfl ?_
    have j60_1 : ∀ w2 : Int32, w2 = (if ((nI (lf o)) &&& mk) = 0 then (nI (2 ^ v)) else (nI 0)) → jv_J x G 4 Q_ M 0 0 60 [(0, .ref a), (1, .int mk), (2, .ref h), (3, .int (nI t_))] [.int w2] := by
      intro w2 e_w2
      exact jv_iret (v := w2) X dX7_impossible_60 rfl hQ (Nat.le_of_ble_eq_true rfl) (Nat.le_of_ble_eq_true rfl) ⟨(by rw [if_neg c5]; exact e_w2), rfl⟩
    refine jv_if_ne 59 X dX7_impossible_47 (by decide) (fun c47 => ?_) (fun c47 => ?_)
    · skip
      refine jv_iconst (v := nI 0) X dX7_impossible_59 rfl ?_
      exact j60_1 _ (if_neg c47).symm
    · skip
      refine jv_iconst (v := nI 1) X dX7_impossible_50 rfl ?_
      refine jv_aload_n X dX7_impossible_51 0 rfl ?_
      refine jv_getS X dX7_impossible_52 ha (T := TX8) (N := 4) (C := RX8) rfl in_X8 1 (by decide) q707 q708 rfl ?_
      refine jv_ishl (w := nI (2 ^ v)) X dX7_impossible_55 (ni_shl1 (by omega)) ?_
      refine jv_goto 60 X dX7_impossible_56 (by decide) ?_
      exact j60_1 _ (if_pos c47).symm
  · skip
    refine jv_aload_n X dX7_impossible_8 2 rfl ?_
    refine jv_aload_n X dX7_impossible_9 0 rfl ?_
    refine jv_getS X dX7_impossible_10 ha (T := TX8) (N := 4) (C := RX8) rfl in_X8 0 (by decide) q704 q705 rfl ?_
    refine jv_iald (v := nI (lf p)) X dX7_impossible_13 hh (jn_in (by omega) (by decide)) (by rw [nI_clamp (by omega)]; exact (hl _ (by omega))) ?_
    refine jv_iconst (v := nI 1) X dX7_impossible_14 rfl ?_
    refine jv_aload_n X dX7_impossible_15 0 rfl ?_
    refine jv_getS X dX7_impossible_16 ha (T := TX8) (N := 4) (C := RX8) rfl in_X8 1 (by decide) q707 q708 rfl ?_
    refine jv_ishl (w := nI (2 ^ v)) X dX7_impossible_19 (ni_shl1 (by omega)) ?_
    refine jn_icmp_ne 33 X dX7_impossible_20 (by decide) (by have := hl6 p hp6; omega) (pow_lt31 (by omega)) (fun c20 => ?_) (fun c20 => ?_)
    · skip
      refine jv_iconst (v := nI 0) X dX7_impossible_33 rfl ?_
      exact jv_iret (v := nI 0) X dX7_impossible_34 rfl hQ (Nat.le_of_ble_eq_true rfl) (Nat.le_of_ble_eq_true rfl) ⟨(by rw [if_pos c5, if_neg c20]), rfl⟩
    · skip
      refine jv_aload_n X dX7_impossible_23 0 rfl ?_
      refine jv_iload_n X dX7_impossible_24 1 rfl ?_
      refine jv_ask (jv_runU (As := [.int mk]) (rest := []) X dX7_impossible_25 (c_X8_lets mk) (jv_cuA X (lw_U (x := yA_Tie_lets) q945 q947 q951 q952 q113 q953) q946 ⟨by decide, by decide⟩ hd_yA_Tie_lets (Nat.le_of_ble_eq_true rfl) (Nat.le_of_ble_eq_true rfl)) ha (show jv_cl[6]? = some (RX8, TX8, 4) from rfl) (Nat.le_of_ble_eq_true rfl) (Nat.le_of_ble_eq_true rfl) rfl (Nat.le_of_ble_eq_true rfl)) ?_
      refine jv_iconst (v := (-1)) X dX7_impossible_28 rfl ?_
      refine jv_ixor (w := mk ^^^ (-1)) X dX7_impossible_29 rfl ?_
      refine jv_goto 34 X dX7_impossible_30 (by decide) ?_
      exact jv_iret (v := mk ^^^ (-1)) X dX7_impossible_34 rfl hQ (Nat.le_of_ble_eq_true rfl) (Nat.le_of_ble_eq_true rfl) ⟨(by rw [if_pos c5, if_pos c20]), rfl⟩
set_option maxHeartbeats 4000000 in
theorem c_X7_ranged_X9 {l : Launch} {G : jv_G} {M : jv_M} {a p v o g : Nat} (ha : M a = some (.inr (7, [.int (nI p), .int (nI v), .int (nI o), .int (nI g)])))   : jv_Ct G l yX7_ranged cX7_ranged 1 (some .int) 0 0 0 0 [.ref a] M (jv_qi G (jv_pi (nI o) M)) := by
  refine jv_Ct.of (lv := [(0, .ref a)]) (by decide) (Nat.le_of_ble_eq_true rfl) rfl ?_
  intro x Q_ hl_ hQ X
  subst hl_
  refine jv_aload_n X dX7_ranged_0 0 rfl ?_
  refine jv_getS X dX7_ranged_1 ha (T := TX9) (N := 4) (C := RX9) rfl in_X9 2 (by decide) q710 q711 rfl ?_
  exact jv_iret (v := nI o) X dX7_ranged_4 rfl hQ (Nat.le_of_ble_eq_true rfl) (Nat.le_of_ble_eq_true rfl) ⟨rfl, rfl⟩
set_option maxHeartbeats 4000000 in
theorem c_X7_isOf_X9 {l : Launch} {G : jv_G} {M : jv_M} {a p v o g : Nat} (ha : M a = some (.inr (7, [.int (nI p), .int (nI v), .int (nI o), .int (nI g)]))) (u : Nat) (w_ : Nat) (hp6 : p < 6) (hv6 : v < 6) (hu : u < 2 ^ 31) (hw : w_ < 2 ^ 31) : jv_Ct G l yX7_isOf cX7_isOf 3 (some .boolean) 0 0 0 0 [.ref a, .int (nI u), .int (nI w_)] M (jv_qi G (jv_pi (bI (decide (p = u) && decide (v = w_))) M)) := by
  refine jv_Ct.of (lv := [(0, .ref a), (1, .int (nI u)), (2, .int (nI w_))]) (by decide) (Nat.le_of_ble_eq_true rfl) rfl ?_
  intro x Q_ hl_ hQ X
  subst hl_
  refine jv_aload_n X dX7_isOf_0 0 rfl ?_
  refine jv_getS X dX7_isOf_1 ha (T := TX9) (N := 4) (C := RX9) rfl in_X9 0 (by decide) q704 q705 rfl ?_
  refine jv_iload_n X dX7_isOf_4 1 rfl ?_
  have j21_1 : ∀ ww : Bool, ww = (if p = u then (if v = w_ then true else false) else false) → jv_J x G 3 Q_ M 0 0 21 [(0, .ref a), (1, .int (nI u)), (2, .int (nI w_))] [.int (bI ww)] := by
    intro ww e_ww
    exact jv_iret (v := bI ww) X dX7_isOf_21 (bI_nar _) hQ (Nat.le_of_ble_eq_true rfl) (Nat.le_of_ble_eq_true rfl) ⟨(by rw [e_ww]; by_cases h1 : p = u <;> by_cases h2 : v = w_ <;> simp [h1, h2]), rfl⟩
  refine jn_icmp_ne 20 X dX7_isOf_5 (by decide) (by omega) (by omega) (fun c5 => ?_) (fun c5 => ?_)
  · skip
    refine jv_iconst (v := nI 0) X dX7_isOf_20 rfl ?_
    exact j21_1 _ (if_neg c5).symm
  · skip
    refine jv_aload_n X dX7_isOf_8 0 rfl ?_
    refine jv_getS X dX7_isOf_9 ha (T := TX9) (N := 4) (C := RX9) rfl in_X9 1 (by decide) q707 q708 rfl ?_
    refine jv_iload_n X dX7_isOf_12 2 rfl ?_
    refine jn_icmp_ne 20 X dX7_isOf_13 (by decide) (by omega) (by omega) (fun c13 => ?_) (fun c13 => ?_)
    · skip
      refine jv_iconst (v := nI 0) X dX7_isOf_20 rfl ?_
      exact j21_1 _ ((if_pos c5).trans (if_neg c13)).symm
    · skip
      refine jv_iconst (v := nI 1) X dX7_isOf_16 rfl ?_
      refine jv_goto 21 X dX7_isOf_17 (by decide) ?_
      exact j21_1 _ ((if_pos c5).trans (if_pos c13)).symm
set_option maxHeartbeats 4000000 in
theorem c_X7_conditions_X9 {l : Launch} {G : jv_G} {M : jv_M} {a p v o g : Nat} (ha : M a = some (.inr (7, [.int (nI p), .int (nI v), .int (nI o), .int (nI g)]))) (t_ : Nat) (hp6 : p < 6) (ho6 : o < 6) (ht : t_ < 2 ^ 31) : jv_Ct G l yX7_conditions cX7_conditions 2 (some .int) 0 0 0 0 [.ref a, .int (nI t_)] M (jv_qi G (jv_pi (nI (if t_ = p then 2 ^ o else 2 ^ p)) M)) := by
  refine jv_Ct.of (lv := [(0, .ref a), (1, .int (nI t_))]) (by decide) (Nat.le_of_ble_eq_true rfl) rfl ?_
  intro x Q_ hl_ hQ X
  subst hl_
  refine jv_iload_n X dX7_conditions_0 1 rfl ?_
  refine jv_aload_n X dX7_conditions_1 0 rfl ?_
  refine jv_getS X dX7_conditions_2 ha (T := TX9) (N := 4) (C := RX9) rfl in_X9 0 (by decide) q704 q705 rfl ?_
  have j23_1 : ∀ w : Nat, w = (if t_ = p then (2 ^ o) else (2 ^ p)) → jv_J x G 2 Q_ M 0 0 23 [(0, .ref a), (1, .int (nI t_))] [.int (nI w)] := by
    intro w e_w
    exact jv_iret (v := nI w) X dX7_conditions_23 rfl hQ (Nat.le_of_ble_eq_true rfl) (Nat.le_of_ble_eq_true rfl) ⟨(congrArg nI e_w), rfl⟩
  refine jn_icmp_ne 17 X dX7_conditions_5 (by decide) (by omega) (by omega) (fun c5 => ?_) (fun c5 => ?_)
  · skip
    refine jv_iconst (v := nI 1) X dX7_conditions_17 rfl ?_
    refine jv_aload_n X dX7_conditions_18 0 rfl ?_
    refine jv_getS X dX7_conditions_19 ha (T := TX9) (N := 4) (C := RX9) rfl in_X9 0 (by decide) q704 q705 rfl ?_
    refine jv_ishl (w := nI (2 ^ p)) X dX7_conditions_22 (ni_shl1 (by omega)) ?_
    exact j23_1 _ (if_neg c5).symm
  · skip
    refine jv_iconst (v := nI 1) X dX7_conditions_8 rfl ?_
    refine jv_aload_n X dX7_conditions_9 0 rfl ?_
    refine jv_getS X dX7_conditions_10 ha (T := TX9) (N := 4) (C := RX9) rfl in_X9 2 (by decide) q710 q711 rfl ?_
    refine jv_ishl (w := nI (2 ^ o)) X dX7_conditions_13 (ni_shl1 (by omega)) ?_
    refine jv_goto 23 X dX7_conditions_14 (by decide) ?_
    exact j23_1 _ (if_pos c5).symm
set_option maxHeartbeats 4000000 in
theorem c_X7_last_X9 {l : Launch} {G : jv_G} {M : jv_M} {a p v o g : Nat} (ha : M a = some (.inr (7, [.int (nI p), .int (nI v), .int (nI o), .int (nI g)])))  (hp6 : p < 6) (ho6 : o < 6) : jv_Ct G l yX7_last cX7_last 1 (some .int) 1 0 0 30 [.ref a] M (jv_qi G (jv_pi (nI (if o ≤ p then p else o)) M)) := by
  refine jv_Ct.of (lv := [(0, .ref a)]) (by decide) (Nat.le_of_ble_eq_true rfl) rfl ?_
  intro x Q_ hl_ hQ X
  subst hl_
  refine jv_aload_n X dX7_last_0 0 rfl ?_
  refine jv_getS X dX7_last_1 ha (T := TX9) (N := 4) (C := RX9) rfl in_X9 0 (by decide) q704 q705 rfl ?_
  refine jv_aload_n X dX7_last_4 0 rfl ?_
  refine jv_getS X dX7_last_5 ha (T := TX9) (N := 4) (C := RX9) rfl in_X9 2 (by decide) q710 q711 rfl ?_
  refine jv_mmax (w := nI (if o ≤ p then p else o)) X dX7_last_8 q1304 q444 q104 q445 (Nat.le_of_ble_eq_true rfl) (Nat.le_of_ble_eq_true rfl) (Nat.le_of_ble_eq_true rfl) (Nat.le_of_ble_eq_true rfl) (mx_n (by omega) (by omega)) ?_
  exact jv_iret (v := nI (if o ≤ p then p else o)) X dX7_last_11 rfl hQ (Nat.le_of_ble_eq_true rfl) (Nat.le_of_ble_eq_true rfl) ⟨rfl, rfl⟩
set_option maxHeartbeats 4000000 in
theorem c_X7_isKept_X9 {l : Launch} {G : jv_G} {M : jv_M} {h : Nat} {fl : Nat → Int32} {lf : Nat → Nat} (hh : M h = some (.inl (G.2.2.1 0, 6, .inl fl))) (hl : ∀ p, p < 6 → fl p = nI (lf p)) {a p v o g : Nat} (ha : M a = some (.inr (7, [.int (nI p), .int (nI v), .int (nI o), .int (nI g)]))) (mk : Int32) (hp6 : p < 6) (hv6 : v < 6) (ho6 : o < 6) (hl6 : ∀ p, p < 6 → lf p < 64) : jv_Ct G l yX7_isKept cX7_isKept 3 (some .boolean) 1 0 0 21 [.ref a, .int mk, .ref h] M (jv_qi G (jv_pi (bI (if lf p = v then hasI (mk ^^^ (-1)) (nI (lf o)) else true)) M)) := by
  refine jv_Ct.of (lv := [(0, .ref a), (1, .int mk), (2, .ref h)]) (by decide) (Nat.le_of_ble_eq_true rfl) rfl ?_
  intro x Q_ hl_ hQ X
  subst hl_
  refine jv_aload_n X dX7_isKept_0 2 rfl ?_
  refine jv_aload_n X dX7_isKept_1 0 rfl ?_
  refine jv_getS X dX7_isKept_2 ha (T := TX9) (N := 4) (C := RX9) rfl in_X9 0 (by decide) q704 q705 rfl ?_
  refine jv_iald (v := nI (lf p)) X dX7_isKept_5 hh (jn_in (by omega) (by decide)) (by rw [nI_clamp (by omega)]; exact (hl _ (by omega))) ?_
  refine jv_aload_n X dX7_isKept_6 0 rfl ?_
  refine jv_getS X dX7_isKept_7 ha (T := TX9) (N := 4) (C := RX9) rfl in_X9 1 (by decide) q707 q708 rfl ?_
  refine jn_icmp_ne 30 X dX7_isKept_10 (by decide) (by have := hl6 p hp6; omega) (by omega) (fun c10 => ?_) (fun c10 => ?_)
  · skip
    refine jv_iconst (v := nI 1) X dX7_isKept_30 rfl ?_
    refine jv_goto 35 X dX7_isKept_31 (by decide) ?_
    exact jv_iret (v := bI true) X dX7_isKept_35 (bI_nar _) hQ (Nat.le_of_ble_eq_true rfl) (Nat.le_of_ble_eq_true rfl) ⟨(by simp [c10]), rfl⟩
  · skip
    refine jv_aload_n X dX7_isKept_13 0 rfl ?_
    refine jv_iload_n X dX7_isKept_14 1 rfl ?_
    refine jv_ask (jv_runU (As := [.int mk]) (rest := []) X dX7_isKept_15 (c_X9_lets mk) (jv_cuA X (lw_U (x := yA_Tie_lets) q945 q947 q948 q949 q114 q950) q946 ⟨by decide, by decide⟩ hd_yA_Tie_lets (Nat.le_of_ble_eq_true rfl) (Nat.le_of_ble_eq_true rfl)) ha (show jv_cl[7]? = some (RX9, TX9, 4) from rfl) (Nat.le_of_ble_eq_true rfl) (Nat.le_of_ble_eq_true rfl) rfl (Nat.le_of_ble_eq_true rfl)) ?_
    refine jv_aload_n X dX7_isKept_18 2 rfl ?_
    refine jv_aload_n X dX7_isKept_19 0 rfl ?_
    refine jv_getS X dX7_isKept_20 ha (T := TX9) (N := 4) (C := RX9) rfl in_X9 2 (by decide) q710 q711 rfl ?_
    refine jv_iald (v := nI (lf o)) X dX7_isKept_23 hh (jn_in (by omega) (by decide)) (by rw [nI_clamp (by omega)]; exact (hl _ (by omega))) ?_
    refine jv_ask (jv_runSN (As := [.int (mk ^^^ (-1)), .int (nI (lf o))]) (rest := []) X dX7_isKept_24 (c_X0_has (mk ^^^ (-1)) (nI (lf o))) (lw_meth q678) q1318 q90 q677 hd_X0_has (Nat.le_of_ble_eq_true rfl) (Nat.le_of_ble_eq_true rfl) (Nat.le_of_ble_eq_true rfl) (Nat.le_of_ble_eq_true rfl) rfl (Nat.le_of_ble_eq_true rfl)) ?_
    have j35_1 : ∀ ww : Bool, ww = (if (hasI (mk ^^^ (-1)) (nI (lf o))) = true then true else false) → jv_J x G 3 Q_ M 0 0 35 [(0, .ref a), (1, .int mk), (2, .ref h)] [.int (bI ww)] := by
      intro ww e_ww
      exact jv_iret (v := bI ww) X dX7_isKept_35 (bI_nar _) hQ (Nat.le_of_ble_eq_true rfl) (Nat.le_of_ble_eq_true rfl) ⟨(by simp [c10, e_ww]), rfl⟩
    refine jb_if_eq 34 X dX7_isKept_27 (by decide) (fun c27 => ?_) (fun c27 => ?_)
    · skip
      refine jv_iconst (v := nI 0) X dX7_isKept_34 rfl ?_
      exact j35_1 _ (if_neg (Bool.eq_false_iff.mp c27)).symm
    · skip
      refine jv_iconst (v := nI 1) X dX7_isKept_30 rfl ?_
      refine jv_goto 35 X dX7_isKept_31 (by decide) ?_
      exact j35_1 _ (if_pos c27).symm
set_option maxHeartbeats 4000000 in
theorem c_X7_impossible_X9 {l : Launch} {G : jv_G} {M : jv_M} {h : Nat} {fl : Nat → Int32} {lf : Nat → Nat} (hh : M h = some (.inl (G.2.2.1 0, 6, .inl fl))) (hl : ∀ p, p < 6 → fl p = nI (lf p)) {a p v o g : Nat} (ha : M a = some (.inr (7, [.int (nI p), .int (nI v), .int (nI o), .int (nI g)]))) (mk : Int32) (t_ : Nat) (hp6 : p < 6) (hv6 : v < 6) (ho6 : o < 6) (ht : t_ < 6) (hl6 : ∀ p, p < 6 → lf p < 64) : jv_Ct G l yX7_impossible cX7_impossible 4 (some .int) 1 0 0 21 [.ref a, .int mk, .ref h, .int (nI t_)] M (jv_qi G (jv_pi ((if t_ = o then (if lf p = 2 ^ v then (mk ^^^ (-1)) ^^^ (-1) else nI 0) else (if nI (lf o) &&& (mk ^^^ (-1)) = 0 then nI (2 ^ v) else nI 0))) M)) := by
  refine jv_Ct.of (lv := [(0, .ref a), (1, .int mk), (2, .ref h), (3, .int (nI t_))]) (by decide) (Nat.le_of_ble_eq_true rfl) rfl ?_
  intro x Q_ hl_ hQ X
  subst hl_
  refine jv_iload_n X dX7_impossible_0 3 rfl ?_
  refine jv_aload_n X dX7_impossible_1 0 rfl ?_
  refine jv_getS X dX7_impossible_2 ha (T := TX9) (N := 4) (C := RX9) rfl in_X9 2 (by decide) q710 q711 rfl ?_
  refine jn_icmp_ne 35 X dX7_impossible_5 (by decide) (by omega) (by omega) (fun c5 => ?_) (fun c5 => ?_)
  · skip
    refine jv_aload_n X dX7_impossible_35 2 rfl ?_
    refine jv_aload_n X dX7_impossible_36 0 rfl ?_
    refine jv_getS X dX7_impossible_37 ha (T := TX9) (N := 4) (C := RX9) rfl in_X9 2 (by decide) q710 q711 rfl ?_
    refine jv_iald (v := nI (lf o)) X dX7_impossible_40 hh (jn_in (by omega) (by decide)) (by rw [nI_clamp (by omega)]; exact (hl _ (by omega))) ?_
    refine jv_aload_n X dX7_impossible_41 0 rfl ?_
    refine jv_iload_n X dX7_impossible_42 1 rfl ?_
    refine jv_ask (jv_runU (As := [.int mk]) (rest := [.int (nI (lf o))]) X dX7_impossible_43 (c_X9_lets mk) (jv_cuA X (lw_U (x := yA_Tie_lets) q945 q947 q948 q949 q114 q950) q946 ⟨by decide, by decide⟩ hd_yA_Tie_lets (Nat.le_of_ble_eq_true rfl) (Nat.le_of_ble_eq_true rfl)) ha (show jv_cl[7]? = some (RX9, TX9, 4) from rfl) (Nat.le_of_ble_eq_true rfl) (Nat.le_of_ble_eq_true rfl) rfl (Nat.le_of_ble_eq_true rfl)) ?_
    refine jv_iand (w := (nI (lf o)) &&& (mk ^^^ (-1))) X dX7_impossible_46 rfl ?_
    have j60_1 : ∀ w2 : Int32, w2 = (if ((nI (lf o)) &&& (mk ^^^ (-1))) = 0 then (nI (2 ^ v)) else (nI 0)) → jv_J x G 4 Q_ M 0 0 60 [(0, .ref a), (1, .int mk), (2, .ref h), (3, .int (nI t_))] [.int w2] := by
      intro w2 e_w2
      exact jv_iret (v := w2) X dX7_impossible_60 rfl hQ (Nat.le_of_ble_eq_true rfl) (Nat.le_of_ble_eq_true rfl) ⟨(by rw [if_neg c5]; exact e_w2), rfl⟩
    refine jv_if_ne 59 X dX7_impossible_47 (by decide) (fun c47 => ?_) (fun c47 => ?_)
    · skip
      refine jv_iconst (v := nI 0) X dX7_impossible_59 rfl ?_
      exact j60_1 _ (if_neg c47).symm
    · skip
      refine jv_iconst (v := nI 1) X dX7_impossible_50 rfl ?_
      refine jv_aload_n X dX7_impossible_51 0 rfl ?_
      refine jv_getS X dX7_impossible_52 ha (T := TX9) (N := 4) (C := RX9) rfl in_X9 1 (by decide) q707 q708 rfl ?_
      refine jv_ishl (w := nI (2 ^ v)) X dX7_impossible_55 (ni_shl1 (by omega)) ?_
      refine jv_goto 60 X dX7_impossible_56 (by decide) ?_
      exact j60_1 _ (if_pos c47).symm
  · skip
    refine jv_aload_n X dX7_impossible_8 2 rfl ?_
    refine jv_aload_n X dX7_impossible_9 0 rfl ?_
    refine jv_getS X dX7_impossible_10 ha (T := TX9) (N := 4) (C := RX9) rfl in_X9 0 (by decide) q704 q705 rfl ?_
    refine jv_iald (v := nI (lf p)) X dX7_impossible_13 hh (jn_in (by omega) (by decide)) (by rw [nI_clamp (by omega)]; exact (hl _ (by omega))) ?_
    refine jv_iconst (v := nI 1) X dX7_impossible_14 rfl ?_
    refine jv_aload_n X dX7_impossible_15 0 rfl ?_
    refine jv_getS X dX7_impossible_16 ha (T := TX9) (N := 4) (C := RX9) rfl in_X9 1 (by decide) q707 q708 rfl ?_
    refine jv_ishl (w := nI (2 ^ v)) X dX7_impossible_19 (ni_shl1 (by omega)) ?_
    refine jn_icmp_ne 33 X dX7_impossible_20 (by decide) (by have := hl6 p hp6; omega) (pow_lt31 (by omega)) (fun c20 => ?_) (fun c20 => ?_)
    · skip
      refine jv_iconst (v := nI 0) X dX7_impossible_33 rfl ?_
      exact jv_iret (v := nI 0) X dX7_impossible_34 rfl hQ (Nat.le_of_ble_eq_true rfl) (Nat.le_of_ble_eq_true rfl) ⟨(by rw [if_pos c5, if_neg c20]), rfl⟩
    · skip
      refine jv_aload_n X dX7_impossible_23 0 rfl ?_
      refine jv_iload_n X dX7_impossible_24 1 rfl ?_
      refine jv_ask (jv_runU (As := [.int mk]) (rest := []) X dX7_impossible_25 (c_X9_lets mk) (jv_cuA X (lw_U (x := yA_Tie_lets) q945 q947 q948 q949 q114 q950) q946 ⟨by decide, by decide⟩ hd_yA_Tie_lets (Nat.le_of_ble_eq_true rfl) (Nat.le_of_ble_eq_true rfl)) ha (show jv_cl[7]? = some (RX9, TX9, 4) from rfl) (Nat.le_of_ble_eq_true rfl) (Nat.le_of_ble_eq_true rfl) rfl (Nat.le_of_ble_eq_true rfl)) ?_
      refine jv_iconst (v := (-1)) X dX7_impossible_28 rfl ?_
      refine jv_ixor (w := (mk ^^^ (-1)) ^^^ (-1)) X dX7_impossible_29 rfl ?_
      refine jv_goto 34 X dX7_impossible_30 (by decide) ?_
      exact jv_iret (v := (mk ^^^ (-1)) ^^^ (-1)) X dX7_impossible_34 rfl hQ (Nat.le_of_ble_eq_true rfl) (Nat.le_of_ble_eq_true rfl) ⟨(by rw [if_pos c5, if_pos c20]), rfl⟩
theorem hd_X13_packs : jv_dd yX13_packs 0 := by unfold jv_dd; decide +kernel
set_option maxHeartbeats 4000000 in
theorem c_X13_packs {l : Launch} {G : jv_G} {M : jv_M} {a e r : Nat} {f : Nat → Int32} {S : Nat → Nat} (ha : M a = some (.inr (11, [.int (-5), .int (-5), .int (-5), .int (-5), .ref e]))) (he : M e = some (.inl (G.2.2.1 0, 6, .inl f))) (hf : ∀ p, p < 6 → f p = sI (lsd S r p))   : jv_Ct G l yX13_packs cX13_packs 3 (some .int) 0 0 0 0 [.ref a] M (jv_qi G (jv_pi (nI (pks S r)) M)) := by
  refine jv_Ct.of (lv := [(0, .ref a)]) (by decide) (Nat.le_of_ble_eq_true rfl) rfl ?_
  intro x Q_ hl_ hQ X
  subst hl_
  refine jv_iconst (v := nI 0) X dX13_packs_0 rfl ?_
  refine jv_istore_n (lv' := [(1, .int (nI 0)), (0, .ref a)]) X dX13_packs_1 rfl (by decide) rfl ?_
  refine jv_iconst (v := nI 0) X dX13_packs_2 rfl ?_
  refine jv_istore_n (lv' := [(2, .int (nI 0)), (1, .int (nI 0)), (0, .ref a)]) X dX13_packs_3 rfl (by decide) rfl ?_
  have lp4_1 : ∀ (d_4 : Nat) (p : Nat) (w : Nat), p ≤ 6 → w = pksN S r p → 6 - p < d_4 → jv_J x G 3 Q_ M 0 0 4 [(0, .ref a), (1, .int (nI w)), (2, .int (nI p))] [] := by
    intro d_4
    induction d_4 with
    | zero => intro p w hp hw hm_4; exact absurd hm_4 (Nat.not_lt_zero _)
    | succ d_4 ih_4 =>
      intro p w hp hw hm_4
      refine jv_iload_n X dX13_packs_4 2 rfl ?_
      refine jv_bipush (v := nI 6) X dX13_packs_5 rfl ?_
      refine jn_icmp_ge 37 X dX13_packs_7 (by decide) (by omega) (by decide) (fun c7 => ?_) (fun c7 => ?_)
      · skip
        refine jv_iload_n X dX13_packs_37 1 rfl ?_
        exact jv_iret (v := nI w) X dX13_packs_38 rfl hQ (Nat.le_of_ble_eq_true rfl) (Nat.le_of_ble_eq_true rfl) ⟨(by rw [hw, show p = 6 by omega]; rfl), rfl⟩
      · skip
        refine jv_iload_n X dX13_packs_10 1 rfl ?_
        refine jv_aload_n X dX13_packs_11 0 rfl ?_
        refine jv_get X dX13_packs_12 ha (T := TX13) (N := 5) (C := RX13) rfl in_X13 4 (by decide) q1161 rfl rfl ?_
        refine jv_iload_n X dX13_packs_15 2 rfl ?_
        refine jv_iald (v := sI (lsd S r p)) X dX13_packs_16 he (jn_in (by omega) (by decide)) (by rw [nI_clamp (by omega)]; exact (hf _ (by omega))) ?_
        refine jv_bipush (v := (-5)) X dX13_packs_17 rfl ?_
        have j29_2 : ∀ wx : Nat, wx = (if (sI (lsd S r p)) = (-5) then 0 else (2 ^ p)) → jv_J x G 3 Q_ M 0 0 29 [(0, .ref a), (1, .int (nI w)), (2, .int (nI p))] [.int (nI wx), .int (nI w)] := by
          intro wx e_wx
          refine jv_ior (w := nI (w ||| wx)) X dX13_packs_29 (ni_or _ _) ?_
          refine jv_istore_n (lv' := [(1, .int (nI (w ||| wx))), (0, .ref a), (2, .int (nI p))]) X dX13_packs_30 rfl (by decide) rfl ?_
          refine jv_iinc (v := nI (p + 1)) (lv' := [(2, .int (nI (p + 1))), (1, .int (nI (w ||| wx))), (0, .ref a)]) X dX13_packs_31 2 rfl (nI_1 _) (by decide) rfl ?_
          refine jv_goto 4 X dX13_packs_34 (by decide) ?_
          refine jv_lv (lv' := [(0, .ref a), (1, .int (nI (w ||| wx))), (2, .int (nI (p + 1)))]) [2, 1, 0] rfl ?_
          exact ih_4 (p + 1) (w ||| wx) (by omega) (by rw [hw, e_wx]; simp only [sI_5 (lsd_lt S r p)]; rfl) (by omega)
        refine jv_icmp_ne 26 X dX13_packs_19 (by decide) (fun c19 => ?_) (fun c19 => ?_)
        · skip
          refine jv_iconst (v := nI 1) X dX13_packs_26 rfl ?_
          refine jv_iload_n X dX13_packs_27 2 rfl ?_
          refine jv_ishl (w := nI (2 ^ p)) X dX13_packs_28 (ni_shl1 (by omega)) ?_
          exact j29_2 _ (if_neg c19).symm
        · skip
          refine jv_iconst (v := nI 0) X dX13_packs_22 rfl ?_
          refine jv_goto 29 X dX13_packs_23 (by decide) ?_
          exact j29_2 _ (if_pos c19).symm
  refine jv_lv (lv' := [(0, .ref a), (1, .int (nI 0)), (2, .int (nI 0))]) [2, 1, 0] rfl ?_
  exact lp4_1 (6 + 1) 0 0 (by decide) rfl (Nat.lt_succ_self _)
theorem hd_X13_ranged : jv_dd yX13_ranged 0 := by unfold jv_dd; decide +kernel
set_option maxHeartbeats 4000000 in
theorem c_X13_ranged {l : Launch} {G : jv_G} {M : jv_M} {a : Nat}   : jv_Ct G l yX13_ranged cX13_ranged 1 (some .int) 0 0 0 0 [.ref a] M (jv_qi G (jv_pi ((-1)) M)) := by
  refine jv_Ct.of (lv := [(0, .ref a)]) (by decide) (Nat.le_of_ble_eq_true rfl) rfl ?_
  intro x Q_ hl_ hQ X
  subst hl_
  refine jv_iconst (v := (-1)) X dX13_ranged_0 rfl ?_
  exact jv_iret (v := (-1)) X dX13_ranged_1 rfl hQ (Nat.le_of_ble_eq_true rfl) (Nat.le_of_ble_eq_true rfl) ⟨rfl, rfl⟩
theorem hd_X13_stateOf : jv_dd yX13_stateOf 1 := by unfold jv_dd; decide +kernel
set_option maxHeartbeats 4000000 in
theorem c_X13_stateOf {l : Launch} {G : jv_G} {M : jv_M} {a e r : Nat} {f : Nat → Int32} {S : Nat → Nat} (ha : M a = some (.inr (11, [.int (-5), .int (-5), .int (-5), .int (-5), .ref e]))) (he : M e = some (.inl (G.2.2.1 0, 6, .inl f))) (hf : ∀ p, p < 6 → f p = sI (lsd S r p)) (q : Nat) (hq : q < 6) : jv_Ct G l yX13_stateOf cX13_stateOf 2 (some .int) 0 0 0 0 [.ref a, .int (nI q)] M (jv_qi G (jv_pi (sI (lsd S r q)) M)) := by
  refine jv_Ct.of (lv := [(0, .ref a), (1, .int (nI q))]) (by decide) (Nat.le_of_ble_eq_true rfl) rfl ?_
  intro x Q_ hl_ hQ X
  subst hl_
  refine jv_aload_n X dX13_stateOf_0 0 rfl ?_
  refine jv_get X dX13_stateOf_1 ha (T := TX13) (N := 5) (C := RX13) rfl in_X13 4 (by decide) q1161 rfl rfl ?_
  refine jv_iload_n X dX13_stateOf_4 1 rfl ?_
  refine jv_iald (v := sI (lsd S r q)) X dX13_stateOf_5 he (jn_in (by omega) (by decide)) (by rw [nI_clamp (by omega)]; exact (hf _ (by omega))) ?_
  exact jv_iret (v := sI (lsd S r q)) X dX13_stateOf_6 rfl hQ (Nat.le_of_ble_eq_true rfl) (Nat.le_of_ble_eq_true rfl) ⟨rfl, rfl⟩
theorem hd_X13_conditions : jv_dd yX13_conditions 1 := by unfold jv_dd; decide +kernel
set_option maxHeartbeats 4000000 in
theorem c_X13_conditions {l : Launch} {G : jv_G} {M : jv_M} {a e r : Nat} {f : Nat → Int32} {S : Nat → Nat} (ha : M a = some (.inr (11, [.int (-5), .int (-5), .int (-5), .int (-5), .ref e]))) (he : M e = some (.inl (G.2.2.1 0, 6, .inl f))) (hf : ∀ p, p < 6 → f p = sI (lsd S r p)) (t_ : Nat) (ht : t_ < 6) : jv_Ct G l yX13_conditions cX13_conditions 2 (some .int) 1 0 0 22 [.ref a, .int (nI t_)] M (jv_qi G (jv_pi (nI (pks S r &&& ux (unv (2 ^ t_)))) M)) := by
  refine jv_Ct.of (lv := [(0, .ref a), (1, .int (nI t_))]) (by decide) (Nat.le_of_ble_eq_true rfl) rfl ?_
  intro x Q_ hl_ hQ X
  subst hl_
  refine jv_aload_n X dX13_conditions_0 0 rfl ?_
  refine jv_ask (jv_runV (As := []) (rest := []) X dX13_conditions_1 (c_X13_packs ha he hf) (lw_V q802 q804 qs17 q121 q806) hd_X13_packs ha rfl (Nat.le_of_ble_eq_true rfl) (Nat.le_of_ble_eq_true rfl) (Nat.le_of_ble_eq_true rfl) (Nat.le_of_ble_eq_true rfl) rfl (Nat.le_of_ble_eq_true rfl)) ?_
  refine jv_iconst (v := nI 1) X dX13_conditions_4 rfl ?_
  refine jv_iload_n X dX13_conditions_5 1 rfl ?_
  refine jv_ishl (w := nI (2 ^ t_)) X dX13_conditions_6 (ni_shl1 (by omega)) ?_
  refine jv_iconst (v := (-1)) X dX13_conditions_7 rfl ?_
  refine jv_ixor (w := (nI (2 ^ t_)) ^^^ (-1)) X dX13_conditions_8 rfl ?_
  refine jv_iand (w := nI (pks S r &&& ux (unv (2 ^ t_)))) X dX13_conditions_9 (ux_and64 (pks_lt S r) _) ?_
  exact jv_iret (v := nI (pks S r &&& ux (unv (2 ^ t_)))) X dX13_conditions_10 rfl hQ (Nat.le_of_ble_eq_true rfl) (Nat.le_of_ble_eq_true rfl) ⟨rfl, rfl⟩
theorem hd_X13_last : jv_dd yX13_last 0 := by unfold jv_dd; decide +kernel
set_option maxHeartbeats 4000000 in
theorem c_X13_last {l : Launch} {G : jv_G} {M : jv_M} {a e r : Nat} {f : Nat → Int32} {S : Nat → Nat} (ha : M a = some (.inr (11, [.int (-5), .int (-5), .int (-5), .int (-5), .ref e]))) (he : M e = some (.inl (G.2.2.1 0, 6, .inl f))) (hf : ∀ p, p < 6 → f p = sI (lsd S r p))  (hx : ∃ q, q < 6 ∧ ¬ lsd S r q = 0) : jv_Ct G l yX13_last cX13_last 2 (some .int) 0 0 0 0 [.ref a] M (jv_qi G (jv_pi (nI (lastN S r 5)) M)) := by
  refine jv_Ct.of (lv := [(0, .ref a)]) (by decide) (Nat.le_of_ble_eq_true rfl) rfl ?_
  intro x Q_ hl_ hQ X
  subst hl_
  refine jv_iconst (v := nI 5) X dX13_last_0 rfl ?_
  refine jv_istore_n (lv' := [(1, .int (nI 5)), (0, .ref a)]) X dX13_last_1 rfl (by decide) rfl ?_
  have lp2_1 : ∀ (d_2 : Nat) (p : Nat), p ≤ 5 → lastN S r 5 = lastN S r p → p < d_2 → jv_J x G 2 Q_ M 0 0 2 [(0, .ref a), (1, .int (nI p))] [] := by
    intro d_2
    induction d_2 with
    | zero => intro p hp hw hm_2; exact absurd hm_2 (Nat.not_lt_zero _)
    | succ d_2 ih_2 =>
      intro p hp hw hm_2
      refine jv_aload_n X dX13_last_2 0 rfl ?_
      refine jv_get X dX13_last_3 ha (T := TX13) (N := 5) (C := RX13) rfl in_X13 4 (by decide) q1161 rfl rfl ?_
      refine jv_iload_n X dX13_last_6 1 rfl ?_
      refine jv_iald (v := sI (lsd S r p)) X dX13_last_7 he (jn_in (by omega) (by decide)) (by rw [nI_clamp (by omega)]; exact (hf _ (by omega))) ?_
      refine jv_bipush (v := (-5)) X dX13_last_8 rfl ?_
      refine jv_icmp_ne 19 X dX13_last_10 (by decide) (fun c10 => ?_) (fun c10 => ?_)
      · skip
        refine jv_iload_n X dX13_last_19 1 rfl ?_
        exact jv_iret (v := nI p) X dX13_last_20 rfl hQ (Nat.le_of_ble_eq_true rfl) (Nat.le_of_ble_eq_true rfl) ⟨(by rw [hw, lastN_at (fun z => c10 ((sI_5 (lsd_lt S r p)).mpr z))]), rfl⟩
      · skip
        have h1_ : 1 ≤ p := by
          rcases Nat.eq_zero_or_pos p with z | z
          · exfalso
            obtain ⟨q, hq, hd⟩ := hx
            have h3 := lastN_ge hd (show q ≤ 5 by omega)
            rw [hw, z] at h3
            have h4 : q = 0 := by unfold lastN at h3; omega
            rw [h4] at hd
            exact hd ((sI_5 (lsd_lt S r 0)).mp (z ▸ c10))
          · exact z
        refine jv_iinc (v := nI p - nI 1) (lv' := [(1, .int (nI p - nI 1)), (0, .ref a)]) X dX13_last_13 1 rfl (ni_dec _) (by decide) rfl ?_
        refine jv_to (lv' := [(1, .int (nI (p - 1))), (0, .ref a)]) (st' := []) (by rw [pk_sub h1_]) rfl ?_
        refine jv_goto 2 X dX13_last_16 (by decide) ?_
        refine jv_lv (lv' := [(0, .ref a), (1, .int (nI (p - 1)))]) [1, 0] rfl ?_
        exact ih_2 (p - 1) (by omega) (by rw [hw, lastN_dn h1_ ((sI_5 (lsd_lt S r p)).mp c10)]) (by omega)
  refine jv_lv (lv' := [(0, .ref a), (1, .int (nI 5))]) [1, 0] rfl ?_
  exact lp2_1 (5 + 1) 5 (by decide) rfl (Nat.lt_succ_self _)
theorem hd_X13_isKept : jv_dd yX13_isKept 2 := by unfold jv_dd; decide +kernel
set_option maxHeartbeats 4000000 in
theorem c_X13_isKept {l : Launch} {G : jv_G} {M : jv_M} {h : Nat} {fl : Nat → Int32} {lf : Nat → Nat} (hh : M h = some (.inl (G.2.2.1 0, 6, .inl fl))) (hl : ∀ p, p < 6 → fl p = nI (lf p)) {a e r : Nat} {f : Nat → Int32} {S : Nat → Nat} (ha : M a = some (.inr (11, [.int (-5), .int (-5), .int (-5), .int (-5), .ref e]))) (he : M e = some (.inl (G.2.2.1 0, 6, .inl f))) (hf : ∀ p, p < 6 → f p = sI (lsd S r p)) (mk : Int32) (hl6 : ∀ p, p < 6 → lf p < 64) : jv_Ct G l yX13_isKept cX13_isKept 4 (some .boolean) 0 0 0 0 [.ref a, .int mk, .ref h] M (jv_qi G (jv_pi (bI (hl6N S r lf 6)) M)) := by
  refine jv_Ct.of (lv := [(0, .ref a), (1, .int mk), (2, .ref h)]) (by decide) (Nat.le_of_ble_eq_true rfl) rfl ?_
  intro x Q_ hl_ hQ X
  subst hl_
  have kx_ : ∀ {p : Nat}, ¬ sI (lsd S r p) = (-5) → sI (lsd S r p) = nI (lf p) → p < 6 → lsd S r p - 1 = lf p := fun {p} h1 h2 h3 => ni_n ((sI_n (fun z => h1 ((sI_5 (lsd_lt S r p)).mpr z))).symm.trans h2) (by have := lsd_lt S r p; omega) (by have := hl6 p h3; omega)
  refine jv_iconst (v := nI 0) X dX13_isKept_0 rfl ?_
  refine jv_istore_n (lv' := [(3, .int (nI 0)), (0, .ref a), (1, .int mk), (2, .ref h)]) X dX13_isKept_1 rfl (by decide) rfl ?_
  have lp2_1 : ∀ (d_2 : Nat) (p : Nat), p ≤ 6 → hl6N S r lf p = false → 6 - p < d_2 → jv_J x G 4 Q_ M 0 0 2 [(0, .ref a), (1, .int mk), (2, .ref h), (3, .int (nI p))] [] := by
    intro d_2
    induction d_2 with
    | zero => intro p hp hw hm_2; exact absurd hm_2 (Nat.not_lt_zero _)
    | succ d_2 ih_2 =>
      intro p hp hw hm_2
      refine jv_iload_n X dX13_isKept_2 3 rfl ?_
      refine jv_bipush (v := nI 6) X dX13_isKept_3 rfl ?_
      refine jn_icmp_ge 39 X dX13_isKept_5 (by decide) (by omega) (by decide) (fun c5 => ?_) (fun c5 => ?_)
      · skip
        refine jv_iconst (v := nI 0) X dX13_isKept_39 rfl ?_
        exact jv_iret (v := bI false) X dX13_isKept_40 (bI_nar _) hQ (Nat.le_of_ble_eq_true rfl) (Nat.le_of_ble_eq_true rfl) ⟨(by rw [show 6 = p by omega, hw]), rfl⟩
      · skip
        refine jv_aload_n X dX13_isKept_8 0 rfl ?_
        refine jv_get X dX13_isKept_9 ha (T := TX13) (N := 5) (C := RX13) rfl in_X13 4 (by decide) q1161 rfl rfl ?_
        refine jv_iload_n X dX13_isKept_12 3 rfl ?_
        refine jv_iald (v := sI (lsd S r p)) X dX13_isKept_13 he (jn_in (by omega) (by decide)) (by rw [nI_clamp (by omega)]; exact (hf _ (by omega))) ?_
        refine jv_bipush (v := (-5)) X dX13_isKept_14 rfl ?_
        refine jv_icmp_eq 33 X dX13_isKept_16 (by decide) (fun c16 => ?_) (fun c16 => ?_)
        · skip
          refine jv_iinc (v := nI (p + 1)) (lv' := [(3, .int (nI (p + 1))), (0, .ref a), (1, .int mk), (2, .ref h)]) X dX13_isKept_33 3 rfl (nI_1 _) (by decide) rfl ?_
          refine jv_goto 2 X dX13_isKept_36 (by decide) ?_
          refine jv_lv (lv' := [(0, .ref a), (1, .int mk), (2, .ref h), (3, .int (nI (p + 1)))]) [1, 2, 3, 0] rfl ?_
          exact ih_2 (p + 1) (by omega) (by unfold hl6N; rw [hw]; simp [(sI_5 (lsd_lt S r p)).mp c16]) (by omega)
        · skip
          refine jv_aload_n X dX13_isKept_19 0 rfl ?_
          refine jv_get X dX13_isKept_20 ha (T := TX13) (N := 5) (C := RX13) rfl in_X13 4 (by decide) q1161 rfl rfl ?_
          refine jv_iload_n X dX13_isKept_23 3 rfl ?_
          refine jv_iald (v := sI (lsd S r p)) X dX13_isKept_24 he (jn_in (by omega) (by decide)) (by rw [nI_clamp (by omega)]; exact (hf _ (by omega))) ?_
          refine jv_aload_n X dX13_isKept_25 2 rfl ?_
          refine jv_iload_n X dX13_isKept_26 3 rfl ?_
          refine jv_iald (v := nI (lf p)) X dX13_isKept_27 hh (jn_in (by omega) (by decide)) (by rw [nI_clamp (by omega)]; exact (hl _ (by omega))) ?_
          refine jv_icmp_eq 33 X dX13_isKept_28 (by decide) (fun c28 => ?_) (fun c28 => ?_)
          · skip
            refine jv_iinc (v := nI (p + 1)) (lv' := [(3, .int (nI (p + 1))), (0, .ref a), (1, .int mk), (2, .ref h)]) X dX13_isKept_33 3 rfl (nI_1 _) (by decide) rfl ?_
            refine jv_goto 2 X dX13_isKept_36 (by decide) ?_
            refine jv_lv (lv' := [(0, .ref a), (1, .int mk), (2, .ref h), (3, .int (nI (p + 1)))]) [1, 2, 3, 0] rfl ?_
            exact ih_2 (p + 1) (by omega) (by unfold hl6N; rw [hw]; simp; exact fun _ => kx_ c16 c28 c5) (by omega)
          · skip
            refine jv_iconst (v := nI 1) X dX13_isKept_31 rfl ?_
            exact jv_iret (v := bI true) X dX13_isKept_32 (bI_nar _) hQ (Nat.le_of_ble_eq_true rfl) (Nat.le_of_ble_eq_true rfl) ⟨(by rw [hl6N_t (p := p) (fun z => c16 ((sI_5 (lsd_lt S r p)).mpr z)) (fun z => c28 ((sI_n (fun z => c16 ((sI_5 (lsd_lt S r p)).mpr z))).trans (by rw [z]))) (by omega)]), rfl⟩
  refine jv_lv (lv' := [(0, .ref a), (1, .int mk), (2, .ref h), (3, .int (nI 0))]) [1, 2, 3, 0] rfl ?_
  exact lp2_1 (6 + 1) 0 (by decide) rfl (Nat.lt_succ_self _)
theorem hd_X13_impossible : jv_dd yX13_impossible 3 := by unfold jv_dd; decide +kernel
set_option maxHeartbeats 4000000 in
theorem c_X13_impossible {l : Launch} {G : jv_G} {M : jv_M} {h : Nat} {fl : Nat → Int32} {lf : Nat → Nat} (hh : M h = some (.inl (G.2.2.1 0, 6, .inl fl))) (hl : ∀ p, p < 6 → fl p = nI (lf p)) {a e r : Nat} {f : Nat → Int32} {S : Nat → Nat} (ha : M a = some (.inr (11, [.int (-5), .int (-5), .int (-5), .int (-5), .ref e]))) (he : M e = some (.inl (G.2.2.1 0, 6, .inl f))) (hf : ∀ p, p < 6 → f p = sI (lsd S r p)) (mk : Int32) (t_ : Nat) (ht : t_ < 6) (hd : ¬ lsd S r t_ = 0) (hl6 : ∀ p, p < 6 → lf p < 64) : jv_Ct G l yX13_impossible cX13_impossible 5 (some .int) 0 0 0 0 [.ref a, .int mk, .ref h, .int (nI t_)] M (jv_qi G (jv_pi ((if imN S r lf t_ 6 = true then nI (2 ^ (lsd S r t_ - 1)) else nI 0)) M)) := by
  refine jv_Ct.of (lv := [(0, .ref a), (1, .int mk), (2, .ref h), (3, .int (nI t_))]) (by decide) (Nat.le_of_ble_eq_true rfl) rfl ?_
  intro x Q_ hl_ hQ X
  subst hl_
  refine jv_iconst (v := nI 0) X dX13_impossible_0 rfl ?_
  refine jv_istore (lv' := [(4, .int (nI 0)), (0, .ref a), (1, .int mk), (2, .ref h), (3, .int (nI t_))]) X dX13_impossible_1 (by decide) rfl ?_
  have lp3_1 : ∀ (d_3 : Nat) (p : Nat), p ≤ 6 → imN S r lf t_ p = true → 6 - p < d_3 → jv_J x G 5 Q_ M 0 0 3 [(0, .ref a), (1, .int mk), (2, .ref h), (3, .int (nI t_)), (4, .int (nI p))] [] := by
    intro d_3
    induction d_3 with
    | zero => intro p hp hw hm_3; exact absurd hm_3 (Nat.not_lt_zero _)
    | succ d_3 ih_3 =>
      intro p hp hw hm_3
      refine jv_iload X dX13_impossible_3 4 rfl ?_
      refine jv_bipush (v := nI 6) X dX13_impossible_5 rfl ?_
      refine jn_icmp_ge 52 X dX13_impossible_7 (by decide) (by omega) (by decide) (fun c7 => ?_) (fun c7 => ?_)
      · skip
        refine jv_iconst (v := nI 1) X dX13_impossible_52 rfl ?_
        refine jv_aload_n X dX13_impossible_53 0 rfl ?_
        refine jv_get X dX13_impossible_54 ha (T := TX13) (N := 5) (C := RX13) rfl in_X13 4 (by decide) q1161 rfl rfl ?_
        refine jv_iload_n X dX13_impossible_57 3 rfl ?_
        refine jv_iald (v := sI (lsd S r t_)) X dX13_impossible_58 he (jn_in (by omega) (by decide)) (by rw [nI_clamp (by omega)]; exact (hf _ (by omega))) ?_
        refine jv_ishl (w := nI (2 ^ (lsd S r t_ - 1))) X dX13_impossible_59 (sI_shl (lsd_lt S r t_) (fun z => hd ((sI_5 (lsd_lt S r t_)).mp z))) ?_
        exact jv_iret (v := nI (2 ^ (lsd S r t_ - 1))) X dX13_impossible_60 rfl hQ (Nat.le_of_ble_eq_true rfl) (Nat.le_of_ble_eq_true rfl) ⟨(by rw [show 6 = p by omega, hw, if_pos rfl]), rfl⟩
      · skip
        refine jv_iload X dX13_impossible_10 4 rfl ?_
        refine jv_iload_n X dX13_impossible_12 3 rfl ?_
        refine jn_icmp_eq 46 X dX13_impossible_13 (by decide) (by omega) (by omega) (fun c13 => ?_) (fun c13 => ?_)
        · skip
          refine jv_iinc (v := nI (p + 1)) (lv' := [(4, .int (nI (p + 1))), (0, .ref a), (1, .int mk), (2, .ref h), (3, .int (nI t_))]) X dX13_impossible_46 4 rfl (nI_1 _) (by decide) rfl ?_
          refine jv_goto 3 X dX13_impossible_49 (by decide) ?_
          refine jv_lv (lv' := [(0, .ref a), (1, .int mk), (2, .ref h), (3, .int (nI t_)), (4, .int (nI (p + 1)))]) [1, 2, 3, 4, 0] rfl ?_
          exact ih_3 (p + 1) (by omega) (by unfold imN; rw [hw]; simp [c13]) (by omega)
        · skip
          refine jv_aload_n X dX13_impossible_16 0 rfl ?_
          refine jv_get X dX13_impossible_17 ha (T := TX13) (N := 5) (C := RX13) rfl in_X13 4 (by decide) q1161 rfl rfl ?_
          refine jv_iload X dX13_impossible_20 4 rfl ?_
          refine jv_iald (v := sI (lsd S r p)) X dX13_impossible_22 he (jn_in (by omega) (by decide)) (by rw [nI_clamp (by omega)]; exact (hf _ (by omega))) ?_
          refine jv_bipush (v := (-5)) X dX13_impossible_23 rfl ?_
          refine jv_icmp_eq 46 X dX13_impossible_25 (by decide) (fun c25 => ?_) (fun c25 => ?_)
          · skip
            refine jv_iinc (v := nI (p + 1)) (lv' := [(4, .int (nI (p + 1))), (0, .ref a), (1, .int mk), (2, .ref h), (3, .int (nI t_))]) X dX13_impossible_46 4 rfl (nI_1 _) (by decide) rfl ?_
            refine jv_goto 3 X dX13_impossible_49 (by decide) ?_
            refine jv_lv (lv' := [(0, .ref a), (1, .int mk), (2, .ref h), (3, .int (nI t_)), (4, .int (nI (p + 1)))]) [1, 2, 3, 4, 0] rfl ?_
            exact ih_3 (p + 1) (by omega) (by unfold imN; rw [hw]; simp [(sI_5 (lsd_lt S r p)).mp c25]) (by omega)
          · skip
            refine jv_aload_n X dX13_impossible_28 2 rfl ?_
            refine jv_iload X dX13_impossible_29 4 rfl ?_
            refine jv_iald (v := nI (lf p)) X dX13_impossible_31 hh (jn_in (by omega) (by decide)) (by rw [nI_clamp (by omega)]; exact (hl _ (by omega))) ?_
            refine jv_iconst (v := nI 1) X dX13_impossible_32 rfl ?_
            refine jv_aload_n X dX13_impossible_33 0 rfl ?_
            refine jv_get X dX13_impossible_34 ha (T := TX13) (N := 5) (C := RX13) rfl in_X13 4 (by decide) q1161 rfl rfl ?_
            refine jv_iload X dX13_impossible_37 4 rfl ?_
            refine jv_iald (v := sI (lsd S r p)) X dX13_impossible_39 he (jn_in (by omega) (by decide)) (by rw [nI_clamp (by omega)]; exact (hf _ (by omega))) ?_
            refine jv_ishl (w := nI (2 ^ (lsd S r p - 1))) X dX13_impossible_40 (sI_shl (lsd_lt S r p) c25) ?_
            refine jn_icmp_eq 46 X dX13_impossible_41 (by decide) (by have := hl6 p (by omega); omega) (pow_lt31 (by have := lsd_lt S r p; omega)) (fun c41 => ?_) (fun c41 => ?_)
            · skip
              refine jv_iinc (v := nI (p + 1)) (lv' := [(4, .int (nI (p + 1))), (0, .ref a), (1, .int mk), (2, .ref h), (3, .int (nI t_))]) X dX13_impossible_46 4 rfl (nI_1 _) (by decide) rfl ?_
              refine jv_goto 3 X dX13_impossible_49 (by decide) ?_
              refine jv_lv (lv' := [(0, .ref a), (1, .int mk), (2, .ref h), (3, .int (nI t_)), (4, .int (nI (p + 1)))]) [1, 2, 3, 4, 0] rfl ?_
              exact ih_3 (p + 1) (by omega) (by unfold imN; rw [hw]; simp [c41]) (by omega)
            · skip
              refine jv_iconst (v := nI 0) X dX13_impossible_44 rfl ?_
              exact jv_iret (v := nI 0) X dX13_impossible_45 rfl hQ (Nat.le_of_ble_eq_true rfl) (Nat.le_of_ble_eq_true rfl) ⟨(by rw [imN_f (q := p) c13 (fun z => c25 ((sI_5 (lsd_lt S r p)).mpr z)) c41 (by omega)]; rfl), rfl⟩
  refine jv_lv (lv' := [(0, .ref a), (1, .int mk), (2, .ref h), (3, .int (nI t_)), (4, .int (nI 0))]) [1, 2, 3, 4, 0] rfl ?_
  exact lp3_1 (6 + 1) 0 (by decide) rfl (Nat.lt_succ_self _)
theorem pcn_mny : ∀ l, l < 64 → ¬ l = 0 → pcn (l &&& (l - 1)) + 1 = pcn l := by decide +kernel
theorem cntN_pcn : ∀ l, l < 64 → cntN l 64 = pcn l := by decide +kernel
theorem pcn_pks : ∀ a b c d e f : Bool, pcn (((((((0 ||| (if a then 0 else 2 ^ 0)) ||| (if b then 0 else 2 ^ 1)) ||| (if c then 0 else 2 ^ 2)) ||| (if d then 0 else 2 ^ 3)) ||| (if e then 0 else 2 ^ 4)) ||| (if f then 0 else 2 ^ 5))) = 0 + (if a then 0 else 1) + (if b then 0 else 1) + (if c then 0 else 1) + (if d then 0 else 1) + (if e then 0 else 1) + (if f then 0 else 1) := by decide +kernel
theorem pcn_lm (S : Nat → Nat) (r : Nat) : pcn (pks S r) = lmN S r 6 := by
  have h := pcn_pks (decide (lsd S r 0 = 0)) (decide (lsd S r 1 = 0)) (decide (lsd S r 2 = 0)) (decide (lsd S r 3 = 0)) (decide (lsd S r 4 = 0)) (decide (lsd S r 5 = 0))
  simp only [decide_eq_true_eq] at h
  exact h
theorem hd_X0_many : jv_dd yX0_many 1 := by unfold jv_dd; decide +kernel
set_option maxHeartbeats 4000000 in
theorem c_X0_many {l : Launch} {G : jv_G} {M : jv_M} (m_ : Nat) (hm : m_ < 64) : jv_Ct G l yX0_many cX0_many 3 (some .int) 0 0 0 0 [.int (nI m_)] M (jv_qi G (jv_pi (nI (pcn m_)) M)) := by
  refine jv_Ct.of (lv := [(0, .int (nI m_))]) (by decide) (Nat.le_of_ble_eq_true rfl) rfl ?_
  intro x Q_ hl_ hQ X
  subst hl_
  refine jv_iconst (v := nI 0) X dX0_many_0 rfl ?_
  refine jv_istore_n (lv' := [(1, .int (nI 0)), (0, .int (nI m_))]) X dX0_many_1 rfl (by decide) rfl ?_
  refine jv_iload_n X dX0_many_2 1 rfl ?_
  refine jv_istore_n (lv' := [(2, .int (nI m_)), (1, .int (nI 0)), (0, .int (nI m_))]) X dX0_many_3 rfl (by decide) rfl ?_
  have lp4_1 : ∀ (d_4 : Nat) (c : Nat) (l : Nat), l < 64 → c + pcn l = pcn m_ → l < d_4 → jv_J x G 3 Q_ M 0 0 4 [(0, .int (nI m_)), (1, .int (nI c)), (2, .int (nI l))] [] := by
    intro d_4
    induction d_4 with
    | zero => intro c l hl hw hm_4; exact absurd hm_4 (Nat.not_lt_zero _)
    | succ d_4 ih_4 =>
      intro c l hl hw hm_4
      refine jv_iload_n X dX0_many_4 2 rfl ?_
      refine jn_if_eq 20 X dX0_many_5 (by decide) (by omega) (fun c5 => ?_) (fun c5 => ?_)
      · skip
        refine jv_iload_n X dX0_many_20 1 rfl ?_
        exact jv_iret (v := nI c) X dX0_many_21 rfl hQ (Nat.le_of_ble_eq_true rfl) (Nat.le_of_ble_eq_true rfl) ⟨(by rw [← hw, show l = 0 by omega]; rfl), rfl⟩
      · skip
        refine jv_iinc (v := nI (c + 1)) (lv' := [(1, .int (nI (c + 1))), (0, .int (nI m_)), (2, .int (nI l))]) X dX0_many_8 1 rfl (nI_1 _) (by decide) rfl ?_
        refine jv_iload_n X dX0_many_11 2 rfl ?_
        refine jv_iload_n X dX0_many_12 2 rfl ?_
        refine jv_iconst (v := nI 1) X dX0_many_13 rfl ?_
        refine jv_isub (w := nI (l - 1)) X dX0_many_14 (pk_sub (by omega)) ?_
        refine jv_iand (w := nI (l &&& (l - 1))) X dX0_many_15 (ni_and _ _) ?_
        refine jv_istore_n (lv' := [(2, .int (nI (l &&& (l - 1)))), (1, .int (nI (c + 1))), (0, .int (nI m_))]) X dX0_many_16 rfl (by decide) rfl ?_
        refine jv_goto 4 X dX0_many_17 (by decide) ?_
        refine jv_lv (lv' := [(0, .int (nI m_)), (1, .int (nI (c + 1))), (2, .int (nI (l &&& (l - 1))))]) [2, 1, 0] rfl ?_
        exact ih_4 (c + 1) (l &&& (l - 1)) (Nat.lt_of_le_of_lt Nat.and_le_left hl) (by have := pcn_mny l hl c5; omega) (by have : l &&& (l - 1) ≤ l - 1 := Nat.and_le_right; omega)
  refine jv_lv (lv' := [(0, .int (nI m_)), (1, .int (nI 0)), (2, .int (nI m_))]) [2, 1, 0] rfl ?_
  exact lp4_1 (m_ + 1) 0 m_ hm (Nat.zero_add _) (Nat.lt_succ_self _)
theorem hd_X13_what : jv_dd yX13_what 1 := by unfold jv_dd; decide +kernel
set_option maxHeartbeats 4000000 in
theorem c_X13_what {l : Launch} {G : jv_G} {M : jv_M} {a e r : Nat} {f : Nat → Int32} {S : Nat → Nat} (ha : M a = some (.inr (11, [.int (-5), .int (-5), .int (-5), .int (-5), .ref e]))) (he : M e = some (.inl (G.2.2.1 0, 6, .inl f))) (hf : ∀ p, p < 6 → f p = sI (lsd S r p)) (w_ : Int32)  : jv_Ct G l yX13_what cX13_what 2 (some .int) 2 0 0 41 [.ref a, .int w_] M (jv_qi G (jv_pi ((if w_ = nI 5 then nI (pcn (pks S r)) else wht (nI 3) (-5) (-5) (-5) (-5) w_)) M)) := by
  refine jv_Ct.of (lv := [(0, .ref a), (1, .int w_)]) (by decide) (Nat.le_of_ble_eq_true rfl) rfl ?_
  intro x Q_ hl_ hQ X
  subst hl_
  refine jv_iload_n X dX13_what_0 1 rfl ?_
  refine jv_iconst (v := nI 5) X dX13_what_1 rfl ?_
  refine jv_icmp_ne 15 X dX13_what_2 (by decide) (fun c2 => ?_) (fun c2 => ?_)
  · skip
    refine jv_aload_n X dX13_what_15 0 rfl ?_
    refine jv_iload_n X dX13_what_16 1 rfl ?_
    refine jv_ask (jv_runSU (As := [.int w_]) (rest := []) X dX13_what_17 (c_X5_what_X13 ha he hf w_) (lw_SU q810 q797 q811 q796 q110 q812) (by decide) hd_X5_what ha (show jv_cl[11]? = some (RX13, TX13, 5) from rfl) (Nat.le_of_ble_eq_true rfl) (Nat.le_of_ble_eq_true rfl) (Nat.le_of_ble_eq_true rfl) (Nat.le_of_ble_eq_true rfl) rfl (Nat.le_of_ble_eq_true rfl)) ?_
    exact jv_iret (v := wht (nI 3) (-5) (-5) (-5) (-5) w_) X dX13_what_20 rfl hQ (Nat.le_of_ble_eq_true rfl) (Nat.le_of_ble_eq_true rfl) ⟨(by rw [if_neg c2]), rfl⟩
  · skip
    refine jv_aload_n X dX13_what_5 0 rfl ?_
    refine jv_ask (jv_runV (As := []) (rest := []) X dX13_what_6 (c_X13_packs ha he hf) (lw_V q802 q804 qs17 q121 q806) hd_X13_packs ha rfl (Nat.le_of_ble_eq_true rfl) (Nat.le_of_ble_eq_true rfl) (Nat.le_of_ble_eq_true rfl) (Nat.le_of_ble_eq_true rfl) rfl (Nat.le_of_ble_eq_true rfl)) ?_
    refine jv_ask (jv_runSN (As := [.int (nI (pks S r))]) (rest := []) X dX13_what_9 (c_X0_many (pks S r) (pks_lt S r)) (lw_meth q809) q807 q90 q808 hd_X0_many (Nat.le_of_ble_eq_true rfl) (Nat.le_of_ble_eq_true rfl) (Nat.le_of_ble_eq_true rfl) (Nat.le_of_ble_eq_true rfl) rfl (Nat.le_of_ble_eq_true rfl)) ?_
    refine jv_goto 20 X dX13_what_12 (by decide) ?_
    exact jv_iret (v := nI (pcn (pks S r))) X dX13_what_20 rfl hQ (Nat.le_of_ble_eq_true rfl) (Nat.le_of_ble_eq_true rfl) ⟨(by rw [if_pos c2]), rfl⟩
theorem hd_X8_reaches : jv_dd yX8_reaches 2 := by unfold jv_dd; decide +kernel
set_option maxHeartbeats 4000000 in
theorem c_X8_reaches {l : Launch} {G : jv_G} {M : jv_M} {a p v o g : Nat} (ha : M a = some (.inr (6, [.int (nI p), .int (nI v), .int (nI o), .int (nI g)]))) (u : Nat) (w_ : Nat) (hp6 : p < 6) (hv6 : v < 6) (hu : u < 2 ^ 31) (hw : w_ < 2 ^ 31) : jv_Ct G l yX8_reaches cX8_reaches 3 (some .int) 1 0 0 22 [.ref a, .int (nI u), .int (nI w_)] M (jv_qi G (jv_pi ((if p = u ∧ v = w_ then nI o else (-1))) M)) := by
  refine jv_Ct.of (lv := [(0, .ref a), (1, .int (nI u)), (2, .int (nI w_))]) (by decide) (Nat.le_of_ble_eq_true rfl) rfl ?_
  intro x Q_ hl_ hQ X
  subst hl_
  refine jv_aload_n X dX8_reaches_0 0 rfl ?_
  refine jv_iload_n X dX8_reaches_1 1 rfl ?_
  refine jv_iload_n X dX8_reaches_2 2 rfl ?_
  refine jv_ask (jv_runU (As := [.int (nI u), .int (nI w_)]) (rest := []) X dX8_reaches_3 (c_X7_isOf_X8 ha u w_ hp6 hv6 hu hw) (jv_cuI X (lw_U (x := yA_Need_isOf) q1268 q1269 q1271 q631 q112 q632) rfl ⟨by decide, by decide⟩ hd_yA_Need_isOf (Nat.le_of_ble_eq_true rfl) (Nat.le_of_ble_eq_true rfl)) ha (show jv_cl[6]? = some (RX8, TX8, 4) from rfl) (Nat.le_of_ble_eq_true rfl) (Nat.le_of_ble_eq_true rfl) rfl (Nat.le_of_ble_eq_true rfl)) ?_
  refine jb_if_eq 16 X dX8_reaches_6 (by decide) (fun c6 => ?_) (fun c6 => ?_)
  · skip
    refine jv_aload_n X dX8_reaches_16 0 rfl ?_
    refine jv_iload_n X dX8_reaches_17 1 rfl ?_
    refine jv_iload_n X dX8_reaches_18 2 rfl ?_
    refine jv_ask (jv_runSU2 (As := [.int (nI u), .int (nI w_)]) (rest := []) X dX8_reaches_19 (c_X5_reaches (nI u) (nI w_)) q1272 q1273 q755 q1275 q1261 q110 q1276 (by decide) hd_X5_reaches ha (show jv_cl[6]? = some (RX8, TX8, 4) from rfl) (Nat.le_of_ble_eq_true rfl) (Nat.le_of_ble_eq_true rfl) (Nat.le_of_ble_eq_true rfl) (Nat.le_of_ble_eq_true rfl) rfl (Nat.le_of_ble_eq_true rfl)) ?_
    exact jv_iret (v := (-1)) X dX8_reaches_22 rfl hQ (Nat.le_of_ble_eq_true rfl) (Nat.le_of_ble_eq_true rfl) ⟨(by rw [if_neg (fun z => by rw [decide_eq_true z.1, decide_eq_true z.2] at c6; cases c6)]), rfl⟩
  · skip
    refine jv_aload_n X dX8_reaches_9 0 rfl ?_
    refine jv_getS X dX8_reaches_10 ha (T := TX8) (N := 4) (C := RX8) rfl in_X8 2 (by decide) q712 q713 rfl ?_
    refine jv_goto 22 X dX8_reaches_13 (by decide) ?_
    exact jv_iret (v := nI o) X dX8_reaches_22 rfl hQ (Nat.le_of_ble_eq_true rfl) (Nat.le_of_ble_eq_true rfl) ⟨(by simp only [Bool.and_eq_true, decide_eq_true_eq] at c6; rw [if_pos c6]), rfl⟩
