/-! what a trace's steps were taken from -/
set_option maxRecDepth 100000
def lvA (S : Nat → Nat) (T : t_T2) (q : Nat) : Nat → Nat
  | 0 => tl (t0T S) q
  | i + 1 => if tp T i = q then lvA S T q i &&& ux (unv (tg T i)) else lvA S T q i
def jE (S : Nat → Nat) (T : t_T2) (l : Nat → Nat) (i : Nat) : Int32 := if 100 ≤ tb T i then nI (2 ^ v_asm S (tb T i - 100) 1) ^^^ (-1) else imp S (tb T i) l (tp T i)
def jok (S : Nat → Nat) (T : t_T2) (i : Nat) : Prop := nI (tg T i) &&& (jE S T (fun q => lvA S T q i) i ^^^ (-1)) = 0
def jrl (S : Nat → Nat) (T : t_T2) (i : Nat) : Prop := (tb T i < 100 → v_ofRule S (tb T i) 0 = 3 → ¬ lsd S (tb T i) (tp T i) = 0) ∧ (100 ≤ tb T i → tb T i - 100 < S 2)
def hst (S : Nat → Nat) (T : t_T2) : Prop := (∀ i, i < tn T → jok S T i ∧ jrl S T i) ∧ (∀ q, lvA S T q (tn T) = tl T q) ∧ (tc T = 6 ∨ tl T (tc T) = 0)
theorem lvA_c {S : Nat → Nat} {T T' : t_T2} {q n : Nat} (h : ∀ k, k < n → tp T' k = tp T k ∧ tg T' k = tg T k) : ∀ i, i ≤ n → lvA S T' q i = lvA S T q i
  | 0, _ => rfl
  | i + 1, hi => by
    unfold lvA
    rw [lvA_c h i (by omega), (h i (by omega)).1, (h i (by omega)).2]
theorem and_x0 (a : Nat) (x : Int32) : nI (a &&& ux x) &&& (x ^^^ (-1)) = 0 := by
  apply Int32.toBitVec_inj.mp
  show BitVec.ofNat 32 (a &&& x.toBitVec.toNat) &&& (x.toBitVec ^^^ BitVec.allOnes 32) = 0#32
  apply BitVec.eq_of_getLsbD_eq
  intro j hj
  rw [BitVec.getLsbD_and, BitVec.getLsbD_xor, BitVec.getLsbD_allOnes, BitVec.getLsbD_ofNat, Nat.testBit_and, BitVec.testBit_toNat]
  cases x.toBitVec.getLsbD j <;> simp [hj]
theorem hst.lv {S : Nat → Nat} {T : t_T2} (h : hst S T) {who p : Nat} {x : Int32} (hx : x = if 100 ≤ who then nI (2 ^ v_asm S (who - 100) 1) ^^^ (-1) else imp S who (tl T) p) (hl : (who < 100 → v_ofRule S who 0 = 3 → ¬ lsd S who p = 0) ∧ (100 ≤ who → who - 100 < S 2)) : hst S (lvT who p x T) := by
  unfold lvT
  split
  · exact h
  · split
    · obtain ⟨h1, h2, h3⟩ := h
      have hc : ∀ q i, i ≤ tn T → lvA S (tn T + 1, (if tl T p &&& ux (unv (tl T p &&& ux x)) = 0 then p else 6), up2 (tl T) p (tl T p &&& ux (unv (tl T p &&& ux x))), up2 (tb T) (tn T) who, up2 (tp T) (tn T) p, up2 (tg T) (tn T) (tl T p &&& ux x)) q i = lvA S T q i := fun q => lvA_c (fun k hk => by
        constructor
        · show up2 (tp T) (tn T) p k = tp T k
          exact up2_o (by omega)
        · show up2 (tg T) (tn T) _ k = tg T k
          exact up2_o (by omega))
      refine ⟨fun i hi => ?_, fun q => ?_, ?_⟩
      · have hi : i < tn T + 1 := hi
        refine ⟨?_, ?_⟩
        case refine_2 =>
          unfold jrl
          by_cases e : i = tn T
          · subst e
            show (up2 (tb T) (tn T) who (tn T) < 100 → v_ofRule S (up2 (tb T) (tn T) who (tn T)) 0 = 3 → ¬ lsd S (up2 (tb T) (tn T) who (tn T)) (up2 (tp T) (tn T) p (tn T)) = 0) ∧ (100 ≤ up2 (tb T) (tn T) who (tn T) → up2 (tb T) (tn T) who (tn T) - 100 < S 2)
            rw [up2_s, up2_s]
            exact hl
          · show (up2 (tb T) (tn T) who i < 100 → v_ofRule S (up2 (tb T) (tn T) who i) 0 = 3 → ¬ lsd S (up2 (tb T) (tn T) who i) (up2 (tp T) (tn T) p i) = 0) ∧ (100 ≤ up2 (tb T) (tn T) who i → up2 (tb T) (tn T) who i - 100 < S 2)
            rw [up2_o (by omega), up2_o (by omega)]
            exact (h1 i (by omega)).2
        unfold jok jE
        have hf := funext (fun q => hc q i (by omega))
        rw [hf]
        by_cases e : i = tn T
        · subst e
          show nI (up2 (tg T) (tn T) (tl T p &&& ux x) (tn T)) &&& ((if 100 ≤ up2 (tb T) (tn T) who (tn T) then nI (2 ^ v_asm S (up2 (tb T) (tn T) who (tn T) - 100) 1) ^^^ (-1) else imp S (up2 (tb T) (tn T) who (tn T)) (fun q => lvA S T q (tn T)) (up2 (tp T) (tn T) p (tn T))) ^^^ (-1)) = 0
          rw [up2_s, up2_s, up2_s, show (fun q => lvA S T q (tn T)) = tl T from funext h2, ← hx]
          exact and_x0 _ _
        · show nI (up2 (tg T) (tn T) (tl T p &&& ux x) i) &&& ((if 100 ≤ up2 (tb T) (tn T) who i then nI (2 ^ v_asm S (up2 (tb T) (tn T) who i - 100) 1) ^^^ (-1) else imp S (up2 (tb T) (tn T) who i) (fun q => lvA S T q i) (up2 (tp T) (tn T) p i)) ^^^ (-1)) = 0
          rw [up2_o (by omega), up2_o (by omega), up2_o (by omega)]
          exact (h1 i (by omega)).1
      · show lvA S _ q (tn T + 1) = up2 (tl T) p _ q
        unfold lvA
        rw [hc q (tn T) (Nat.le_refl _), h2 q]
        show (if up2 (tp T) (tn T) p (tn T) = q then tl T q &&& ux (unv (up2 (tg T) (tn T) (tl T p &&& ux x) (tn T))) else tl T q) = _
        rw [up2_s, up2_s]
        by_cases e : p = q
        · rw [if_pos e, ← e, up2_s]
        · rw [if_neg e, up2_o (fun z => e z.symm)]
      · show (if tl T p &&& ux (unv (tl T p &&& ux x)) = 0 then p else 6) = 6 ∨ up2 (tl T) p (tl T p &&& ux (unv (tl T p &&& ux x))) (if tl T p &&& ux (unv (tl T p &&& ux x)) = 0 then p else 6) = 0
        by_cases e : tl T p &&& ux (unv (tl T p &&& ux x)) = 0
        · rw [if_pos e, up2_s]; exact Or.inr e
        · rw [if_neg e]; exact Or.inl rfl
    · exact h
theorem hst.t0 (S : Nat → Nat) : hst S (t0T S) := ⟨fun i hi => absurd hi (Nat.not_lt_zero _), fun _ => rfl, Or.inl rfl⟩
theorem imp_EI {S : Nat → Nat} {r : Nat} {lets : Int32} (hb : barX S r = lets ^^^ (-1)) (h0 : v_ofRule S r 0 = 1 ∨ v_ofRule S r 0 = 2) (l : Nat → Nat) (t : Nat) : imp S r l t = EI S r lets l t := by
  unfold imp EI
  rw [if_neg (by omega), if_neg (by omega), hb, xor2]
theorem hst.apl {S : Nat → Nat} (hW : wfB S) (hL : wfL S) {r : Nat} (hr : r < S 1) (h3 : v_ofRule S r 0 = 3) {T : t_T2} (h : hst S T) : ∀ d q, q + d = 6 → hst S (aplF S r T d q)
  | 0, _, _ => h
  | d + 1, q, hq => by
    have := hW.r
    rw [aplF_st hW hL hr h3 (by omega)]
    by_cases z : ¬ lsd S r q = 0 ∧ imN S r (tl T) q 6 = true
    · rw [if_pos z]
      refine h.lv ?_ ⟨fun _ _ => z.1, fun _ => by omega⟩
      rw [if_neg (by omega)]
      unfold imp
      rw [if_neg (by omega), if_pos h3, if_pos z.2]
    · rw [if_neg z]
      exact hst.apl hW hL hr h3 h d (q + 1) (by omega)
theorem hst.app {S : Nat → Nat} (hS : wfS S) (hL : wfL S) (hPP : wfP S) {r : Nat} (hr : r < S 1) {T : t_T2} (hk : okT T) (h : hst S T) : hst S (appT S r T) := by
  have hW := hS.1
  have hr30 := hW.r
  have hkd := hW.rk (show r < 30 by omega)
  rcases (by omega : v_ofRule S r 0 = 0 ∨ v_ofRule S r 0 = 3 ∨ v_ofRule S r 0 = 1 ∨ v_ofRule S r 0 = 2) with h0 | h0 | h0 | h0
  · unfold appT
    rw [if_pos h0]
    refine h.lv ?_ ⟨fun _ z => by omega, fun _ => by omega⟩
    rw [if_neg (by omega)]
    unfold imp
    rw [if_pos h0]
  · rw [appT_3 hW hL hr h0]
    exact h.apl hW hL hr h0 6 0 rfl
  · rw [← appT_tie (barX_1 h0) (by rw [h0]; rfl) (hPP r hr (by rw [h0]; rfl)) (hW.r3 (by omega)) hk]
    refine (h.lv ?_ ⟨fun _ z => by omega, fun _ => by omega⟩).lv ?_ ⟨fun _ z => by omega, fun _ => by omega⟩
    · rw [if_neg (by omega), imp_EI (barX_1 h0) (Or.inl h0)]
    · rw [if_neg (by omega), imp_EI (barX_1 h0) (Or.inl h0)]
  · rw [← appT_tie (barX_2 h0) (by rw [h0]; rfl) (hPP r hr (by rw [h0]; rfl)) (hW.r3 (by omega)) hk]
    refine (h.lv ?_ ⟨fun _ z => by omega, fun _ => by omega⟩).lv ?_ ⟨fun _ z => by omega, fun _ => by omega⟩
    · rw [if_neg (by omega), imp_EI (barX_2 h0) (Or.inr h0)]
    · rw [if_neg (by omega), imp_EI (barX_2 h0) (Or.inr h0)]
theorem hst.fol {S : Nat → Nat} (hS : wfS S) (hL : wfL S) (hPP : wfP S) : ∀ (d q r : Nat) (T : t_T2), hst S T → okT T → (0 < S 1 → r < S 1) → hst S (folN S d q r T)
  | 0, _, _, _, h, _, _ => h
  | d + 1, q, r, T, h, hk, hr => by
    unfold folN
    split
    · split
      · exact h
      · have hr1 := hr (by omega)
        exact hst.fol hS hL hPP d _ _ _ (h.app hS hL hPP hr1 hk) (hk.app hS.1 (by have := hS.1.r; omega)) (fun _ => Nat.mod_lt _ (by omega))
    · exact h
theorem hst.foT {S : Nat → Nat} (hS : wfS S) (hL : wfL S) (hPP : wfP S) {T : t_T2} (h : hst S T) (hk : okT T) : hst S (folT S T) := hst.fol hS hL hPP _ _ _ _ h hk (fun z => z)
theorem hst.gon {S : Nat → Nat} (hS : wfS S) (hL : wfL S) (hPP : wfP S) (m : Int32) : ∀ (d a : Nat) (T : t_T2), hst S T → okT T → a + d ≤ S 2 → hst S (goN S m d a T)
  | 0, _, _, h, _, _ => h
  | d + 1, a, T, h, hk, ha => by
    have h2 := hS.1.a
    unfold goN
    split
    · split
      · refine hst.gon hS hL hPP m d (a + 1) _ (hst.foT hS hL hPP (h.lv ?_ ⟨fun z => by omega, fun _ => by omega⟩) (hk.lv (hS.1.a0 (by omega)) _)) (okT.foT hS.1 (hk.lv (hS.1.a0 (by omega)) _)) (by omega)
        rw [if_pos (by omega), show 100 + a - 100 = a by omega]
        rfl
      · exact hst.gon hS hL hPP m d (a + 1) _ h hk (by omega)
    · exact h
theorem hst.got {S : Nat → Nat} (hS : wfS S) (hL : wfL S) (hPP : wfP S) (m : Int32) : hst S (goT S m) := hst.gon hS hL hPP m _ _ _ (hst.foT hS hL hPP (hst.t0 S) (okT.t0 hS.1)) (okT.foT hS.1 (okT.t0 hS.1)) (by omega)
theorem hst.ga {S : Nat → Nat} (hS : wfS S) (hL : wfL S) (hPP : wfP S) : hst S (gA S) := hst.got hS hL hPP (nI 63)
theorem imN_c {S : Nat → Nat} {r t : Nat} {l l' : Nat → Nat} (h : ∀ q, q ≠ t → ¬ lsd S r q = 0 → l q = l' q) : ∀ n, imN S r l t n = imN S r l' t n
  | 0 => rfl
  | n + 1 => by
    unfold imN
    rw [imN_c h n]
    by_cases h1 : n = t
    · simp [h1]
    · by_cases h2 : lsd S r n = 0
      · simp [h2]
      · rw [h n h1 h2]
/-- what is impossible looks at nothing but what it rests on -/
theorem imp_c {S : Nat → Nat} (hPP : wfP S) {r t : Nat} (hr : r < S 1) {l l' : Nat → Nat} (hk : v_ofRule S r 0 < 4) (h : ∀ q, rst S r t q = true → l q = l' q) : imp S r l t = imp S r l' t := by
  unfold imp
  rcases (by omega : v_ofRule S r 0 = 0 ∨ v_ofRule S r 0 = 3 ∨ v_ofRule S r 0 = 1 ∨ v_ofRule S r 0 = 2) with h0 | h0 | h0
  · rw [if_pos h0, if_pos h0]
  · have n0 : ¬ v_ofRule S r 0 = 0 := by omega
    rw [if_neg n0, if_pos h0, if_neg n0, if_pos h0, imN_c (l' := l') (fun q h1 h2 => h q (by unfold rst; rw [if_neg h1, if_pos h0, if_neg h2]))]
  · have hne := hPP r hr (by rcases h0 with h0 | h0 <;> rw [h0] <;> rfl)
    have n0 : ¬ v_ofRule S r 0 = 0 := by omega
    have n3 : ¬ v_ofRule S r 0 = 3 := by omega
    rw [if_neg n0, if_neg n3, if_neg n0, if_neg n3]
    by_cases e : t = v_ofRule S r 3
    · rw [if_pos e, if_pos e, h (v_ofRule S r 1) (by unfold rst; rw [if_neg (fun z => hne (z.trans e)), if_neg n3, if_neg n0, if_pos rfl])]
    · rw [if_neg e, if_neg e, h (v_ofRule S r 3) (by unfold rst; rw [if_neg (fun z => e z.symm), if_neg n3, if_neg n0, if_neg (Ne.symm hne), if_pos rfl])]
/-- left, by the steps of a set alone -/
def lvP (S : Nat → Nat) (T : t_T2) (m q : Nat) : Nat → Nat
  | 0 => tl (t0T S) q
  | i + 1 => if m / 2 ^ i % 2 = 1 then (if tp T i = q then lvP S T m q i &&& ux (unv (tg T i)) else lvP S T m q i) else lvP S T m q i
theorem lvP_A {S : Nat → Nat} {T : t_T2} {m q : Nat} : ∀ n, (∀ k, k < n → tp T k = q → m.testBit k = true) → lvP S T m q n = lvA S T q n
  | 0, _ => rfl
  | n + 1, h => by
    unfold lvP lvA
    rw [lvP_A n (fun k hk => h k (by omega))]
    by_cases e : tp T n = q
    · have := h n (by omega) e
      rw [Nat.testBit_eq_decide_div_mod_eq, decide_eq_true_eq] at this
      rw [if_pos this]
    · rw [if_neg e, ite_self]
theorem rsts_e (S : Nat → Nat) (T : t_T2) (i k : Nat) : v_rests S T i k = if 100 ≤ tb T i then false else rst S (tb T i) (tp T i) (tp T k) := rfl
/-- every step of the proof stands by the proof's steps alone -/
theorem prf_ok {S : Nat → Nat} (hS : wfS S) (hPP : wfP S) {T : t_T2} (hwT : wfT S T) (hh : hst S T) (hc : ¬ tc T = 6) {i : Nat} (hi : i < tn T) (hb : prT S T / 2 ^ i % 2 = 1) : nI (tg T i) &&& (jE S T (fun q => lvP S T (prT S T) q i) i ^^^ (-1)) = 0 := by
  have hP := prN_bit S T (tn T) (Nat.le_refl _)
  have hb2 : (prN S T (tn T)).testBit i = true := by
    unfold prT at hb
    rw [if_neg hc] at hb
    rw [Nat.testBit_eq_decide_div_mod_eq, decide_eq_true_eq]; exact hb
  have hj := (hh.1 i hi).1
  unfold jok at hj
  by_cases h1 : 100 ≤ tb T i
  · unfold jE at hj ⊢
    rw [if_pos h1] at hj ⊢
    exact hj
  · have hr : tb T i < S 1 := (hwT i hi).1.resolve_right (by omega)
    have e : jE S T (fun q => lvP S T (prT S T) q i) i = jE S T (fun q => lvA S T q i) i := by
      unfold jE
      rw [if_neg h1, if_neg h1]
      refine imp_c hPP hr (Nat.lt_succ_of_le (hS.1.rk (by have := hS.1.r; omega))) (fun q hq => ?_)
      refine lvP_A i (fun k hk hq2 => ?_)
      unfold prT
      rw [if_neg hc]
      exact (hP k).mpr ⟨by omega, by omega, Or.inr ⟨i, hk, hi, hb2, by rw [rsts_e, if_neg h1, hq2]; exact hq⟩⟩
    rw [e]; exact hj
theorem prf_end {S : Nat → Nat} {T : t_T2} (hh : hst S T) (hc : ¬ tc T = 6) : lvP S T (prT S T) (tc T) (tn T) = 0 := by
  have hP := prN_bit S T (tn T) (Nat.le_refl _)
  rw [lvP_A _ (fun k hk hq => by
    unfold prT
    rw [if_neg hc]
    exact (hP k).mpr ⟨by omega, hk, Or.inl hq⟩), hh.2.1]
  exact hh.2.2.resolve_left hc
theorem lvP_lt {S : Nat → Nat} (hW : wfB S) {T : t_T2} {m q : Nat} (hq : q < 6) : ∀ i, lvP S T m q i < 64
  | 0 => (okT.t0 hW).2.1 q hq
  | i + 1 => by
    unfold lvP
    have ih := lvP_lt hW (T := T) (m := m) hq i
    split
    · split
      · exact Nat.lt_of_le_of_lt Nat.and_le_left ih
      · exact ih
    · exact ih
