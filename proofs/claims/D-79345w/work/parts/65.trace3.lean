/-! one rule on a trace: the component's way and the specification's -/
set_option maxRecDepth 100000
theorem ux_0 : ux (nI 0) = 0 := by decide
theorem lvT_0 {who p : Nat} {T : t_T2} : lvT who p (nI 0) T = T := by
  unfold lvT
  rw [ux_0, Nat.and_zero, if_pos rfl]
theorem appT_0 {S : Nat → Nat} {r : Nat} {T : t_T2} (h0 : v_ofRule S r 0 = 0) : lvT r (v_ofRule S r 1) (nI (msk S r) ^^^ (-1)) T = appT S r T := by
  unfold appT msk rgp
  rw [h0]
  rfl
/-- what cannot be of a tie's package -/
def EI (S : Nat → Nat) (r : Nat) (lets : Int32) (l : Nat → Nat) (t : Nat) : Int32 := if t = v_ofRule S r 3 then (if l (v_ofRule S r 1) = 2 ^ v_ofRule S r 2 then lets ^^^ (-1) else nI 0) else (if nI (l (v_ofRule S r 3)) &&& lets = 0 then nI (2 ^ v_ofRule S r 2) else nI 0)
theorem appT_tie {S : Nat → Nat} {r : Nat} {T : t_T2} {lets : Int32} (hb : barX S r = lets ^^^ (-1)) (hkd : v_inN (v_ofRule S r 0) 1 2 = true) (hne : v_ofRule S r 1 ≠ v_ofRule S r 3) (ho : v_ofRule S r 3 < 6) (hk : okT T) :
    lvT r (v_ofRule S r 1) (EI S r lets (tl (lvT r (v_ofRule S r 3) (EI S r lets (tl T) (v_ofRule S r 3)) T)) (v_ofRule S r 1)) (lvT r (v_ofRule S r 3) (EI S r lets (tl T) (v_ofRule S r 3)) T) = appT S r T := by
  have h0 : v_ofRule S r 0 = 1 ∨ v_ofRule S r 0 = 2 := by simp [v_inN] at hkd; omega
  have hl : lets = barX S r ^^^ (-1) := by rw [hb, xor2]
  have e1 : lvT r (v_ofRule S r 3) (EI S r lets (tl T) (v_ofRule S r 3)) T = tie1x r (v_ofRule S r 1) (v_ofRule S r 3) (2 ^ v_ofRule S r 2) (barX S r) T := by
    unfold EI tie1x
    rw [if_pos rfl, hb]
    by_cases h : tl T (v_ofRule S r 1) = 2 ^ v_ofRule S r 2
    · rw [if_pos h, if_pos h]
    · rw [if_neg h, if_neg h, lvT_0]
  have hk1 : okT (tie1x r (v_ofRule S r 1) (v_ofRule S r 3) (2 ^ v_ofRule S r 2) (barX S r) T) := hk.tie1 ho
  rw [e1]
  unfold appT
  rw [if_neg (by omega), if_neg (by omega)]
  unfold tieT
  generalize tie1x r (v_ofRule S r 1) (v_ofRule S r 3) (2 ^ v_ofRule S r 2) (barX S r) T = T1 at hk1
  unfold EI
  rw [if_neg hne, hl, ux_and64 (hk1.2.1 _ ho)]
  have hz : nI (tl T1 (v_ofRule S r 3) &&& ux (barX S r ^^^ (-1))) = 0 ↔ tl T1 (v_ofRule S r 3) &&& ux (barX S r ^^^ (-1)) = 0 := by
    have : tl T1 (v_ofRule S r 3) &&& ux (barX S r ^^^ (-1)) < 64 := Nat.lt_of_le_of_lt Nat.and_le_left (hk1.2.1 _ ho)
    exact nI_eq (by omega) (by decide)
  by_cases h : tl T1 (v_ofRule S r 3) &&& ux (barX S r ^^^ (-1)) = 0
  · rw [if_pos h, if_pos (hz.mpr h)]
  · rw [if_neg h, if_neg (fun w => h (hz.mp w)), lvT_0]
theorem barX_1 {S : Nat → Nat} {r : Nat} (h0 : v_ofRule S r 0 = 1) : barX S r = nI (msk S r) ^^^ (-1) := by
  unfold barX msk rgp
  rw [h0]; rfl
theorem barX_2 {S : Nat → Nat} {r : Nat} (h0 : v_ofRule S r 0 = 2) : barX S r = (nI (msk S r) ^^^ (-1)) ^^^ (-1) := by
  rw [xor2]
  unfold barX msk rgp
  rw [h0]; rfl
theorem imN_z {S : Nat → Nat} {r t n : Nat} {l : Nat → Nat} (h : ∀ q, n ≤ q → lsd S r q = 0) : ∀ (d : Nat), imN S r l t (n + d) = imN S r l t n
  | 0 => rfl
  | d + 1 => by
    show (imN S r l t (n + d) && _) = _
    rw [imN_z h d, show lsd S r (n.add d) = 0 from h (n + d) (by omega)]
    simp
theorem imN_6 {S : Nat → Nat} (hW : wfB S) (hL : wfL S) {r t : Nat} {l : Nat → Nat} (hr : r < S 1) (h3 : v_ofRule S r 0 = 3) : imN S r l t 6 = imN S r l t (S 0) := by
  have h6 := hW.p
  have h := imN_z (l := l) (t := t) (hL r hr h3).2 (6 - S 0)
  rw [show S 0 + (6 - S 0) = 6 by omega] at h
  exact h
theorem aplF_z {S : Nat → Nat} {r : Nat} {T : t_T2} (h : ∀ q, S 0 ≤ q → lsd S r q = 0) : ∀ (d p : Nat), S 0 ≤ p → aplF S r T d p = T
  | 0, _, _ => rfl
  | d + 1, p, hp => by
    unfold aplF
    rw [if_neg (fun z => isN_d z (h p hp))]
    exact aplF_z h d (p + 1) (by omega)
theorem aplF_6 {S : Nat → Nat} {r : Nat} {T : t_T2} (h : ∀ q, S 0 ≤ q → lsd S r q = 0) : ∀ (d p : Nat), p + d = S 0 → ∀ m, aplF S r T (d + m) p = aplF S r T d p
  | 0, p, hp, m => by rw [Nat.zero_add]; exact aplF_z h m p (by omega)
  | d + 1, p, hp, m => by
    rw [show d + 1 + m = (d + m) + 1 by omega]
    unfold aplF
    split
    · rfl
    · exact aplF_6 h d (p + 1) (by omega) m
theorem appT_3 {S : Nat → Nat} (hW : wfB S) (hL : wfL S) {r : Nat} {T : t_T2} (hr : r < S 1) (h3 : v_ofRule S r 0 = 3) : appT S r T = aplF S r T 6 0 := by
  have h6 := hW.p
  unfold appT aplT
  rw [if_neg (by omega), if_pos h3, ← aplF_6 (hL r hr h3).2 (S 0) 0 (by omega) (6 - S 0), show S 0 + (6 - S 0) = 6 by omega]
/-- a step of the loop over a learned rule's packages -/
theorem aplF_st {S : Nat → Nat} (hW : wfB S) (hL : wfL S) {r q d : Nat} {T : t_T2} (hr : r < S 1) (h3 : v_ofRule S r 0 = 3) (hq : q < 6) : aplF S r T (d + 1) q = if ¬ lsd S r q = 0 ∧ imN S r (tl T) q 6 = true then lvT r q (nI (2 ^ (lsd S r q - 1))) T else aplF S r T d (q + 1) := by
  unfold aplF
  by_cases h : lsd S r q = 0
  · rw [if_neg (fun z => isN_d z h), if_neg (fun z => z.1 h)]
    exact (show aplF S r T d (q + 1) = _ by cases d <;> rfl)
  · rw [isN_im h, imN_6 hW hL hr h3]
    by_cases h2 : imN S r (tl T) q (S 0) = true
    · rw [if_pos h2, if_pos ⟨h, h2⟩]
    · rw [if_neg h2, if_neg (fun z => h2 z.2)]
      exact (show aplF S r T d (q + 1) = _ by cases d <;> rfl)
theorem pow2_nz {k : Nat} (h : k < 31) : ¬ nI (2 ^ k) = 0 := nI_ne0 (Nat.two_pow_pos _) (pow_lt31 h)
theorem lvT_le {who p : Nat} {x : Int32} {T : t_T2} : tn T ≤ tn (lvT who p x T) := by
  rcases lvT_n (who := who) (p := p) (x := x) (T := T) with h | h <;> omega
/-! settling: round after round -/
def pasN (S : Nat → Nat) : Nat → Nat → t_T2 → t_T2
  | 0, _, T => T
  | d + 1, k, T => if tc T = 6 then pasN S d (k + 1) (appT S k T) else T
theorem pasN_s {S : Nat → Nat} {d k : Nat} {T : t_T2} (h : 0 < d) (hc : tc T = 6) : pasN S d k T = pasN S (d - 1) (k + 1) (appT S k T) := by
  obtain ⟨d, rfl⟩ : ∃ e, d = e + 1 := ⟨d - 1, by omega⟩
  rw [pasN, if_pos hc]; rfl
theorem pasN_c {S : Nat → Nat} {T : t_T2} (hc : ¬ tc T = 6) : ∀ (d k : Nat), pasN S d k T = T
  | 0, _ => rfl
  | d + 1, k => by rw [pasN, if_neg hc]
def pas (S : Nat → Nat) (T : t_T2) : t_T2 := pasN S (S 1) 0 T
def stl (S : Nat → Nat) (T : t_T2) : Prop := ¬ tc T = 6 ∨ ∀ r, r < S 1 → appT S r T = T
def cyN (S : Nat → Nat) : Nat → Nat → t_T2 → t_T2
  | 0, _, T => T
  | d + 1, r, T => if tc T = 6 then cyN S d (if r + 1 = S 1 then 0 else r + 1) (appT S r T) else T
theorem cyN_stl {S : Nat → Nat} {T : t_T2} (h : stl S T) : ∀ (d r : Nat), (0 < S 1 → r < S 1) → (S 1 = 0 → d = 0 ∨ ¬ tc T = 6) → cyN S d r T = T
  | 0, _, _, _ => rfl
  | d + 1, r, hr, h0 => by
    unfold cyN
    split
    · rename_i hc
      have h1 : 0 < S 1 := by
        rcases Nat.eq_zero_or_pos (S 1) with z | z
        · rcases h0 z with w | w
          · omega
          · exact absurd hc w
        · exact z
      rcases h with h | h
      · exact absurd hc h
      · rw [h r (hr h1)]
        exact cyN_stl (Or.inr h) d _ (fun _ => by have := hr h1; split <;> omega) (fun z => by omega)
    · rfl
/-- where the round is after some rules -/
def rot (S : Nat → Nat) : Nat → Nat → Nat
  | 0, r => r
  | d + 1, r => rot S d (if r + 1 = S 1 then 0 else r + 1)
theorem rot_lt {S : Nat → Nat} : ∀ (d r : Nat), r < S 1 → rot S d r < S 1
  | 0, _, h => h
  | d + 1, r, h => rot_lt d _ (by split <;> omega)
theorem rot_S {S : Nat → Nat} : ∀ (d r : Nat), 0 < d → r + d = S 1 → rot S d r = 0
  | 0, _, h, _ => absurd h (Nat.lt_irrefl _)
  | d + 1, r, _, h => by
    unfold rot
    by_cases e : r + 1 = S 1
    · rw [if_pos e, show d = 0 by omega]; rfl
    · rw [if_neg e]; exact rot_S d (r + 1) (by omega) (by omega)
theorem cyN_c {S : Nat → Nat} {T : t_T2} (hc : ¬ tc T = 6) : ∀ (d r : Nat), cyN S d r T = T
  | 0, _ => rfl
  | d + 1, r => by rw [cyN, if_neg hc]
theorem cyN_s {S : Nat → Nat} {d r : Nat} {T : t_T2} : cyN S (d + 1) r T = if tc T = 6 then cyN S d (if r + 1 = S 1 then 0 else r + 1) (appT S r T) else T := rfl
theorem cyN_add {S : Nat → Nat} : ∀ (a b r : Nat) (T : t_T2), cyN S (a + b) r T = cyN S b (rot S a r) (cyN S a r T)
  | 0, b, r, T => by rw [Nat.zero_add]; rfl
  | a + 1, b, r, T => by
    rw [show a + 1 + b = (a + b) + 1 by omega, cyN_s, cyN_s (d := a)]
    show _ = cyN S b (rot S a (if r + 1 = S 1 then 0 else r + 1)) _
    by_cases h : tc T = 6
    · rw [if_pos h, if_pos h]
      exact cyN_add a b _ _
    · rw [if_neg h, if_neg h]
      exact (cyN_c h _ _).symm
theorem pas_cy {S : Nat → Nat} : ∀ (d k : Nat) (T : t_T2), k + d = S 1 → pasN S d k T = cyN S d k T
  | 0, _, _, _ => rfl
  | d + 1, k, T, h => by
    unfold pasN cyN
    split
    · by_cases e : k + 1 = S 1
      · rw [if_pos e, show d = 0 by omega]; rfl
      · rw [if_neg e]; exact pas_cy d (k + 1) _ (by omega)
    · rfl
theorem lvT_same {who p : Nat} {x : Int32} {T : t_T2} (h : tn (lvT who p x T) = tn T) : lvT who p x T = T := by
  rcases lvT_n (who := who) (p := p) (x := x) (T := T) with z | z
  · exact z.2
  · omega
theorem app_same {S : Nat → Nat} {r : Nat} {T : t_T2} (h : tn (appT S r T) = tn T) : appT S r T = T := by
  have hA : ∀ d p, tn (aplF S r T d p) = tn T → aplF S r T d p = T := by
    intro d
    induction d with
    | zero => intro p _; rfl
    | succ d ih =>
      intro p h
      unfold aplF at h ⊢
      split at h
      · rename_i z; rw [if_pos z]; exact lvT_same h
      · rename_i z; rw [if_neg z]; exact ih _ h
  unfold appT at h ⊢
  split at h
  · rename_i z; rw [if_pos z]; exact lvT_same h
  · rename_i z0
    split at h
    · rename_i z; rw [if_neg z0, if_pos z]; exact hA _ _ h
    · rename_i z
      rw [if_neg z0, if_neg z]
      have h1 : ∀ p o own x, tn T ≤ tn (tie1x r p o own x T) := fun p o own x => by unfold tie1x; split; exact lvT_le; exact Nat.le_refl _
      have h2 : ∀ p o own x, tn (tie1x r p o own x T) = tn T → tie1x r p o own x T = T := fun p o own x w => by
        unfold tie1x at w ⊢
        split at w
        · rename_i y; rw [if_pos y]; exact lvT_same w
        · rename_i y; rw [if_neg y]
      unfold tieT at h ⊢
      split at h
      · rename_i y
        rw [if_pos y]
        have h3 := h1 (v_ofRule S r 1) (v_ofRule S r 3) (2 ^ v_ofRule S r 2) (barX S r)
        have h4 := lvT_le (who := r) (p := v_ofRule S r 1) (x := nI (2 ^ v_ofRule S r 2)) (T := tie1x r (v_ofRule S r 1) (v_ofRule S r 3) (2 ^ v_ofRule S r 2) (barX S r) T)
        have h5 := h2 _ _ _ _ (show tn (tie1x r (v_ofRule S r 1) (v_ofRule S r 3) (2 ^ v_ofRule S r 2) (barX S r) T) = tn T by omega)
        rw [h5] at h ⊢
        exact lvT_same h
      · rename_i y
        rw [if_neg y]
        exact h2 _ _ _ _ h
/-- how long ago a rule was looked at -/
def ago (S : Nat → Nat) (r i : Nat) : Nat := if i < r then r - i else r + S 1 - i
theorem fol_cy {S : Nat → Nat} : ∀ (d q r : Nat) (T : t_T2), (0 < S 1 → r < S 1) → (∀ i, i < S 1 → ago S r i ≤ q → appT S i T = T) → (tc T = 6 → S 1 = 0 → True) → (0 < S 1 ∨ d = 0 ∨ True) → folN S d q r T = (if S 1 = 0 then T else cyN S d r T)
  | 0, q, r, T, _, _, _, _ => by unfold folN cyN; split <;> rfl
  | d + 1, q, r, T, hr, hq, h3, h4 => by
    unfold folN
    by_cases hc : tc T = 6
    · rw [if_pos hc]
      by_cases hs : S 1 ≤ q
      · rw [if_pos hs]
        by_cases h0 : S 1 = 0
        · rw [if_pos h0]
        · rw [if_neg h0]
          exact (cyN_stl (Or.inr (fun i hi => hq i hi (by have := hr (by omega); unfold ago; split <;> omega))) _ _ hr (fun z => absurd z h0)).symm
      · rw [if_neg hs]
        have hr1 := hr (by omega)
        have e1 : (r + 1) % S 1 = if r + 1 = S 1 then 0 else r + 1 := by
          by_cases e : r + 1 = S 1
          · rw [if_pos e, e, Nat.mod_self]
          · rw [if_neg e, Nat.mod_eq_of_lt (by omega)]
        rw [e1, if_neg (show ¬ S 1 = 0 by omega)]
        have ih := fol_cy (S := S) d (if tn (appT S r T) = tn T then q + 1 else 0) (if r + 1 = S 1 then 0 else r + 1) (appT S r T) (fun _ => by split <;> omega) (fun i hi ha => by
          by_cases e : tn (appT S r T) = tn T
          · have es := app_same e
            rw [if_pos e] at ha
            rw [es]
            by_cases ei : i = r
            · rw [ei]; exact es
            · refine hq i hi ?_
              unfold ago at ha ⊢
              split at ha <;> split at ha <;> split <;> omega
          · rw [if_neg e] at ha
            exfalso
            unfold ago at ha
            split at ha <;> split at ha <;> omega) (fun _ _ => trivial) (Or.inr (Or.inr trivial))
        rw [ih, if_neg (show ¬ S 1 = 0 by omega)]
        unfold cyN
        rw [if_pos hc]
        cases d <;> rfl
    · rw [if_neg hc]
      by_cases h0 : S 1 = 0
      · rw [if_pos h0]
      · rw [if_neg h0]
        exact (cyN_c hc _ _).symm
theorem fol_stl {S : Nat → Nat} (hW : wfB S) : ∀ (d q r : Nat) (T : t_T2), okT T → (0 < S 1 → r < S 1) → (∀ i, i < S 1 → ago S r i ≤ q → appT S i T = T) → folM S q T < d → stl S (folN S d q r T)
  | 0, _, _, _, _, _, _, h => absurd h (Nat.not_lt_zero _)
  | d + 1, q, r, T, hk, hr, hq, hm => by
    unfold folN
    by_cases hc : tc T = 6
    · rw [if_pos hc]
      by_cases hs : S 1 ≤ q
      · rw [if_pos hs]
        exact Or.inr (fun i hi => hq i hi (by have := hr (by omega); unfold ago; split <;> omega))
      · rw [if_neg hs]
        have hr1 := hr (by omega)
        have e1 : (r + 1) % S 1 = if r + 1 = S 1 then 0 else r + 1 := by
          by_cases e : r + 1 = S 1
          · rw [if_pos e, e, Nat.mod_self]
          · rw [if_neg e, Nat.mod_eq_of_lt (by omega)]
        rw [e1]
        have hk2 := hk.app hW (r := r) (by have := hW.r; omega)
        refine fol_stl hW d _ _ _ hk2 (fun _ => by split <;> omega) (fun i hi ha => ?_) (Nat.lt_of_lt_of_le (folM_dn hk2 (by omega)) (by omega))
        by_cases e : tn (appT S r T) = tn T
        · have es := app_same e
          rw [if_pos e] at ha
          rw [es]
          by_cases ei : i = r
          · rw [ei]; exact es
          · refine hq i hi ?_
            unfold ago at ha ⊢
            split at ha <;> split at ha <;> split <;> omega
        · rw [if_neg e] at ha
          exfalso
          unfold ago at ha
          split at ha <;> split at ha <;> omega
    · rw [if_neg hc]
      exact Or.inl hc
theorem ago_0 {S : Nat → Nat} {i : Nat} (hi : i < S 1) : ¬ ago S 0 i ≤ 0 := by unfold ago; split <;> omega
theorem foT_cy {S : Nat → Nat} (T : t_T2) : folT S T = if S 1 = 0 then T else cyN S 1200 0 T := fol_cy 1200 0 0 T (fun z => z) (fun i hi ha => absurd ha (ago_0 hi)) (fun _ _ => trivial) (Or.inr (Or.inr trivial))
theorem foT_stl {S : Nat → Nat} (hW : wfB S) {T : t_T2} (hk : okT T) : stl S (folT S T) := fol_stl hW 1200 0 0 T hk (fun z => z) (fun i hi ha => absurd ha (ago_0 hi)) (folM_0 hW T)
/-- a settled trace stays -/
theorem foT_id {S : Nat → Nat} {T : t_T2} (h : stl S T) : folT S T = T := by
  rw [foT_cy]
  split
  · rfl
  · rename_i h0
    exact cyN_stl h _ _ (fun z => z) (fun z => absurd z h0)
/-- a round ahead changes nothing of the end -/
theorem foT_pas {S : Nat → Nat} (hW : wfB S) {T : t_T2} (hk : okT T) : folT S (pas S T) = folT S T := by
  have h := foT_stl hW hk
  rw [foT_cy, foT_cy T]
  rw [foT_cy] at h
  by_cases h0 : S 1 = 0
  · rw [if_pos h0, if_pos h0]
    unfold pas
    rw [h0]; rfl
  · rw [if_neg h0] at h
    rw [if_neg h0, if_neg h0]
    unfold pas
    rw [pas_cy (S 1) 0 T (by omega)]
    have e := cyN_add (S := S) (S 1) 1200 0 T
    rw [rot_S (S 1) 0 (by omega) (by omega)] at e
    rw [← e, Nat.add_comm, cyN_add]
    exact cyN_stl h _ _ (fun z => rot_lt _ _ z) (fun z => absurd z h0)
theorem okT.pas {S : Nat → Nat} (hW : wfB S) : ∀ (d k : Nat) (T : t_T2), okT T → k + d ≤ S 1 → okT (pasN S d k T)
  | 0, _, _, h, _ => h
  | d + 1, k, T, h, hk => by
    unfold pasN
    split
    · exact okT.pas hW d (k + 1) _ (h.app hW (by have := hW.r; omega)) (by omega)
    · exact h
theorem wfT.pas {S : Nat → Nat} (hS : wfS S) : ∀ (d k : Nat) (T : t_T2), wfT S T → okT T → k + d ≤ S 1 → wfT S (pasN S d k T)
  | 0, _, _, h, _, _ => h
  | d + 1, k, T, h, ho, hk => by
    unfold pasN
    split
    · exact wfT.pas hS d (k + 1) _ (h.app hS (by omega) ho) (ho.app hS.1 (by have := hS.1.r; omega)) (by omega)
    · exact h
theorem pasN_le {S : Nat → Nat} : ∀ (d k : Nat) (T : t_T2), tn T ≤ tn (pasN S d k T)
  | 0, _, _ => Nat.le_refl _
  | d + 1, k, T => by
    unfold pasN
    split
    · exact Nat.le_trans app_n (pasN_le d (k + 1) _)
    · exact Nat.le_refl _
/-- a round without a step: nothing follows any more -/
theorem pasN_q {S : Nat → Nat} : ∀ (d k : Nat) (T : t_T2), tc T = 6 → tn (pasN S d k T) = tn T → pasN S d k T = T ∧ ∀ i, k ≤ i → i < k + d → appT S i T = T
  | 0, _, _, _, _ => ⟨rfl, fun i h1 h2 => by omega⟩
  | d + 1, k, T, hc, h => by
    unfold pasN at h ⊢
    rw [if_pos hc] at h ⊢
    have h1 := app_n (S := S) (r := k) (T := T)
    have h2 := pasN_le (S := S) d (k + 1) (appT S k T)
    have es := app_same (S := S) (r := k) (T := T) (by omega)
    rw [es] at h ⊢
    obtain ⟨h3, h4⟩ := pasN_q d (k + 1) T hc h
    refine ⟨h3, fun i a b => ?_⟩
    by_cases e : i = k
    · rw [e]; exact es
    · exact h4 i (by omega) (by omega)
theorem pas_stl {S : Nat → Nat} {T : t_T2} (hc : tc T = 6) (h : ¬ tn T < tn (pas S T)) : stl S (pas S T) := by
  have h1 := pasN_le (S := S) (S 1) 0 T
  unfold pas at h ⊢
  obtain ⟨h2, h3⟩ := pasN_q (S := S) (S 1) 0 T hc (by omega)
  rw [h2]
  exact Or.inr (fun r hr => h3 r (by omega) (by omega))
theorem foT_le {S : Nat → Nat} : ∀ (d q r : Nat) (T : t_T2), tn T ≤ tn (folN S d q r T)
  | 0, _, _, _ => Nat.le_refl _
  | d + 1, q, r, T => by
    unfold folN
    split
    · split
      · exact Nat.le_refl _
      · exact Nat.le_trans app_n (foT_le d _ _ _)
    · exact Nat.le_refl _
