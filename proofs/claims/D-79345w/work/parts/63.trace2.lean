/-! what leavesOut leaves behind -/
set_option maxRecDepth 100000
theorem none_ne {B : jv_M} {a z : Nat} (h : B a = none) (hz : B z ≠ none) : z ≠ a := fun w => hz (by rw [w]; exact h)
theorem jtr_lv {G : jv_G} {σ : jk_A} {B M M2 : jv_M} {S : Nat → Nat} {b t ma le sl N e N' e' q rs who p : Nat} {T : t_T2} {mc mc' x cw : Int32} {gm gl gl' : Nat → Int32} {f f' : Nat → Option Nat} {V : Nat → Nat}
    (hp : p < 6) (hT : jtc G σ B M S b t T ma le sl N e mc gm gl f V) (hc : tc T = 6) (hg : ¬ (tl T p &&& ux x) = 0) (hq : M q = none) (hrs : rs = rsN S (lvT who p x T) (tn T))
    (hdl' : jdl G σ M2 sl (tn T + 1) N' e' f' mc') (hfo : ∀ i, i < tn T → f' i = f i) (hfn : f' (tn T) = some q) (ha : jadd (jv_up M q (.inr (9, [.int (nI who), .int (nI p), .int (nI (tl T p &&& ux x)), .long (lN rs)]))) M2 sl e e' N)
    (hgl' : gl' = upd gl p (nI (tl T p &&& ux (unv (tl T p &&& ux x))))) (hcw : cw = if tl T p &&& ux (unv (tl T p &&& ux x)) = 0 then nI p else cfI (tc T)) :
    jtr G σ B (jv_up (jv_up M2 le (.inl (G.2.2.1 0, 6, .inl gl'))) t (.inr (8, [.ref b, .ref ma, .ref le, .ref sl, .int cw]))) S b t (lvT who p x T) := by
  have eT : lvT who p x T = (tn T + 1, (if tl T p &&& ux (unv (tl T p &&& ux x)) = 0 then p else 6), up2 (tl T) p (tl T p &&& ux (unv (tl T p &&& ux x))), up2 (tb T) (tn T) who, up2 (tp T) (tn T) p, up2 (tg T) (tn T) (tl T p &&& ux x)) := by
    unfold lvT; rw [if_neg hg, if_pos hc]
  obtain ⟨⟨ht, hft, hnt⟩, ⟨hma, hfma, hnma, hgm⟩, ⟨hle, hfle, hnle, hgl⟩, hml, ⟨hdl, hnsl, hne⟩, hV, hag⟩ := hT
  have hsl := hdl.1
  have arr : 10 ≤ N → _ := fun h => (hdl.arr h).1
  -- old cells in M2
  have kp : ∀ {z : Nat} {c : va_E}, M z = some c → z ≠ sl → (10 ≤ N → z ≠ e) → M2 z = some c := fun {z c} hz h1 h2 => ha.keep ((jv_up_n (new_ne hq hz)).trans hz) h1 h2
  have t2 := kp ht (ck_ne ht hsl rfl) (fun h => ck_ne ht (arr h) rfl)
  have ma2 := kp hma (ck_ne hma hsl rfl) (fun h => ck_ne hma (arr h) rfl)
  have le2 := kp hle (ck_ne hle hsl rfl) (fun h => ck_ne hle (arr h) rfl)
  have q2 : M2 q = _ := ha.keep jv_up_s (Ne.symm (new_ne hq hsl)) (fun h => Ne.symm (new_ne hq (arr h)))
  have tle : t ≠ le := ck_ne ht hle rfl
  have rsO : ∀ i, i < tn T → rsN S (lvT who p x T) i = rsN S T i := fun i hi => by
    unfold rsN
    refine rsK_eq ?_ ?_ (fun j hj => ?_)
    · rw [eT]; exact if_neg (by omega)
    · rw [eT]; exact if_neg (by omega)
    · rw [eT]; exact if_neg (by omega)
  refine ⟨ma, le, sl, N', e', mc', gm, gl', f', fun i => if i = tn T then q else V i, ⟨?_, hft, hnt⟩, ⟨?_, hfma, hnma, hgm⟩, ⟨?_, hfle, hnle, fun p' hp' => ?_⟩, hml, ⟨?_, hnsl, fun hN => ?_⟩, fun i hi => ?_, fun z hz => ?_⟩
  · rw [jv_up_s, hcw, eT]
    show (some (Sum.inr (8, [Value.ref b, .ref ma, .ref le, .ref sl, .int _])) : Option va_E) = some (Sum.inr (8, [Value.ref b, .ref ma, .ref le, .ref sl, .int (cfI (if tl T p &&& ux (unv (tl T p &&& ux x)) = 0 then p else 6))]))
    by_cases h : tl T p &&& ux (unv (tl T p &&& ux x)) = 0
    · rw [if_pos h, if_pos h]
      unfold cfI
      rw [if_neg (by omega)]
    · rw [if_neg h, if_neg h, hc]
  · rw [jv_up_n (ck_ne hma ht rfl), jv_up_n hml]; exact ma2
  · rw [jv_up_n (Ne.symm tle), jv_up_s]
  · rw [eT, hgl']
    show upd gl p _ p' = nI (up2 (tl T) p _ p')
    unfold up2 upd
    by_cases h : p' = p
    · rw [if_pos h, if_pos h]
    · rw [if_neg h, if_neg h]; exact hgl p' hp'
  · rw [eT]
    refine hdl'.kp ?_ (fun hN => ?_)
    · rw [jv_up_n (ck_ne hsl ht rfl), jv_up_n (ck_ne hsl hle rfl)]
    · have h9 := (hdl'.arr hN).1
      rw [jv_up_n (ck_ne h9 t2 rfl), jv_up_n (ck_ne h9 le2 rfl)]
  · rcases ha with ⟨h1, h2, -⟩ | ⟨h1, -⟩
    · rw [h1]; exact hne h2
    · exact hag.none (up_none h1).1
  · have hi : i < tn T + 1 := by rw [eT] at hi; exact hi
    show f' i = some (if i = tn T then q else V i) ∧ jst _ S _ i (if i = tn T then q else V i)
    by_cases h : i = tn T
    · rw [if_pos h, h]
      refine ⟨hfn, ?_⟩
      unfold jst
      rw [jv_up_n (ck_ne q2 t2 rfl), jv_up_n (ck_ne q2 le2 rfl), q2, ← hrs, eT]
      show _ = (some (Sum.inr (9, [Value.int (nI (up2 (tb T) (tn T) who (tn T))), .int (nI (up2 (tp T) (tn T) p (tn T))), .int (nI (up2 (tg T) (tn T) _ (tn T))), _])) : Option va_E)
      rw [up2_s, up2_s, up2_s]
    · obtain ⟨h3, h4⟩ := hV i (by omega)
      rw [if_neg h]
      refine ⟨(hfo i (by omega)).trans h3, ?_⟩
      unfold jst at h4 ⊢
      have v2 := kp h4 (ck_ne h4 hsl rfl) (fun h => ck_ne h4 (arr h) rfl)
      rw [jv_up_n (ck_ne v2 t2 rfl), jv_up_n (ck_ne v2 le2 rfl), v2, rsO i (by omega), eT]
      show _ = (some (Sum.inr (9, [Value.int (nI (up2 (tb T) (tn T) who i)), .int (nI (up2 (tp T) (tn T) p i)), .int (nI (up2 (tg T) (tn T) _ i)), _])) : Option va_E)
      rw [up2_o h, up2_o h, up2_o h]
  · rw [jv_up_n (none_ne hnt hz), jv_up_n (none_ne hnle hz)]
    cases hbz : B z with
    | none => exact absurd hbz hz
    | some c => exact kp (hag.c hbz) (none_ne hnsl hz) (fun h => none_ne (hne h) hz)
theorem jdl.new {G : jv_G} {σ : jk_A} {M : jv_M} {a n N e q : Nat} {f : Nat → Option Nat} {mc : Int32} {x : va_E} (h : jdl G σ M a n N e f mc) (hq : M q = none) : jdl G σ (jv_up M q x) a n N e f mc :=
  h.kp (jv_up_n (new_ne hq h.1)) (fun hN => jv_up_n (new_ne hq (h.arr hN).1))
theorem lvT_new {S : Nat → Nat} (hW : wfB S) (hP : wfP S) {T : t_T2} (hwT : wfT S T) (hS0 : S 0 ≤ 6) {who p : Nat} {x : Int32} (hg : ¬ (tl T p &&& ux x) = 0) (hc : tc T = 6) (hw : who < S 1) (hp : p < 6) (hl : rlv S who p) : sfN T (cnd S who p) (tn T) = rsN S (lvT who p x T) (tn T) := by
  have eT : lvT who p x T = (tn T + 1, (if tl T p &&& ux (unv (tl T p &&& ux x)) = 0 then p else 6), up2 (tl T) p (tl T p &&& ux (unv (tl T p &&& ux x))), up2 (tb T) (tn T) who, up2 (tp T) (tn T) p, up2 (tg T) (tn T) (tl T p &&& ux x)) := by
    unfold lvT; rw [if_neg hg, if_pos hc]
  unfold rsN
  refine (rsK_sf hW hP (T := T) ?_ ?_ hw hp hl (fun j hj => ⟨?_, by have := (hwT j hj).2.1; omega⟩)).symm
  · rw [eT]; exact up2_s
  · rw [eT]; exact up2_s
  · rw [eT]; exact up2_o (by omega)
theorem lvT_asm {S : Nat → Nat} {T : t_T2} {who p : Nat} {x : Int32} (hg : ¬ (tl T p &&& ux x) = 0) (hc : tc T = 6) (hw : 100 ≤ who) : 0 = rsN S (lvT who p x T) (tn T) := by
  unfold rsN
  refine (rsK_no ?_ _).symm
  unfold lvT
  rw [if_neg hg, if_pos hc]
  show 100 ≤ up2 (tb T) (tn T) who (tn T)
  rw [up2_s]; exact hw
