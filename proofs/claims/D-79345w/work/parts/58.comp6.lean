/-! the component, sixth: rules of any kind -/
set_option maxRecDepth 100000
def rgI (S : Nat → Nat) (r : Nat) : Int32 := if v_ofRule S r 0 = 3 then (-1) else nI (rgp S r)
def rWht (S : Nat → Nat) (r : Nat) (w : Int32) : Int32 := if v_ofRule S r 0 = 0 then wht (nI 0) (nI (v_ofRule S r 1)) (-5) (-5) (nI (v_ofRule S r 4)) w else if v_ofRule S r 0 = 3 then (if w = nI 5 then nI (pcn (pks S r)) else wht (nI 3) (-5) (-5) (-5) (-5) w) else wht (nI (v_ofRule S r 0)) (nI (v_ofRule S r 1)) (nI (v_ofRule S r 2)) (nI (v_ofRule S r 3)) (nI (v_ofRule S r 4)) w
def rSta (S : Nat → Nat) (r q : Nat) : Int32 := if v_ofRule S r 0 = 3 then sI (lsd S r q) else (-5)
def rIs (S : Nat → Nat) (r u w : Nat) : Bool := if v_inN (v_ofRule S r 0) 1 2 = true then (decide (v_ofRule S r 1 = u) && decide (v_ofRule S r 2 = w)) else false
def rWan (S : Nat → Nat) (r : Nat) : Int32 := if v_ofRule S r 0 = 0 then nI (v_ofRule S r 1) else (-1)
def rRea (S : Nat → Nat) (r u w : Nat) : Int32 := if v_ofRule S r 0 = 1 then (if v_ofRule S r 1 = u ∧ v_ofRule S r 2 = w then nI (v_ofRule S r 3) else (-1)) else (-1)
def cnd (S : Nat → Nat) (r t : Nat) : Nat := if v_ofRule S r 0 = 0 then 0 else if v_ofRule S r 0 = 3 then pks S r &&& ux (unv (2 ^ t)) else if t = v_ofRule S r 1 then 2 ^ v_ofRule S r 3 else 2 ^ v_ofRule S r 1
def msk (S : Nat → Nat) (r : Nat) : Nat := if v_ofRule S r 0 = 3 then 0 else cov S (rgp S r) (v_ofRule S r 4)
def imp (S : Nat → Nat) (r : Nat) (l : Nat → Nat) (t : Nat) : Int32 := if v_ofRule S r 0 = 0 then nI (cov S (v_ofRule S r 1) (v_ofRule S r 4)) ^^^ (-1) else if v_ofRule S r 0 = 3 then (if imN S r l t 6 = true then nI (2 ^ (lsd S r t - 1)) else nI 0)
  else if t = v_ofRule S r 3 then (if l (v_ofRule S r 1) = 2 ^ v_ofRule S r 2 then barX S r else nI 0) else (if nI (l (v_ofRule S r 3)) &&& (barX S r ^^^ (-1)) = 0 then nI (2 ^ v_ofRule S r 2) else nI 0)
theorem xor2 (u : Int32) : u ^^^ (-1) ^^^ (-1) = u := by
  apply Int32.toBitVec_inj.mp
  show u.toBitVec ^^^ (-1 : Int32).toBitVec ^^^ (-1 : Int32).toBitVec = u.toBitVec
  rw [BitVec.xor_assoc, BitVec.xor_self, BitVec.xor_zero]
theorem hasI_unv : ∀ m, m < 64 → ∀ k, k < 6 → hasI (nI m ^^^ (-1)) (nI k) = !hasI (nI m) (nI k) := by decide +kernel
theorem hasI_b {u k : Nat} (hu : u < 2 ^ 31) (hk : k < 32) : hasI (nI u) (nI k) = (if u / 2 ^ k &&& 1 = 1 then true else false) := by
  rw [hasI_n hu hk, Nat.and_one_is_mod, ite_tf]
theorem hl6_h {S : Nat → Nat} {r : Nat} {c : Nat → Nat} : ∀ (d p : Nat), hl6N S r c p = false → hl6N S r c (p + d) = hldN S r c d p
  | 0, p, h => by rw [Nat.add_zero, h]; rfl
  | d + 1, p, h => by
    unfold hldN
    have e : p + (d + 1) = (p + 1) + d := by omega
    by_cases h1 : lsd S r p = 0
    · rw [if_pos h1, e]
      exact hl6_h d (p + 1) (by unfold hl6N; rw [h]; simp [h1])
    · rw [if_neg h1]
      by_cases h2 : lsd S r p - 1 = c p
      · rw [if_pos h2, e]
        exact hl6_h d (p + 1) (by unfold hl6N; rw [h]; simp [h2])
      · rw [if_neg h2]
        exact hl6N_t h1 h2 (by omega)
theorem hl6_z {S : Nat → Nat} {r n : Nat} {c : Nat → Nat} (h : ∀ q, n ≤ q → lsd S r q = 0) : ∀ (d : Nat), hl6N S r c (n + d) = hl6N S r c n
  | 0 => rfl
  | d + 1 => by
    show (hl6N S r c (n + d) || _) = _
    rw [hl6_z h d, show lsd S r (n.add d) = 0 from h (n + d) (by omega)]
    simp
theorem hl6_hld {S : Nat → Nat} (hW : wfB S) (hL : wfL S) {r : Nat} {c : Nat → Nat} (hr : r < S 1) (h3 : v_ofRule S r 0 = 3) : hl6N S r c 6 = hld S r c := by
  have h6 := hW.p
  have h := hl6_z (c := c) (hL r hr h3).2 (6 - S 0)
  rw [show S 0 + (6 - S 0) = 6 by omega] at h
  unfold hld
  rw [if_pos h3, h, ← hl6_h (S 0) 0 rfl, Nat.zero_add]
theorem wl_x {S : Nat → Nat} (hW : wfB S) (hL : wfL S) {r : Nat} (hr : r < S 1) (h3 : v_ofRule S r 0 = 3) : ∃ q, q < 6 ∧ ¬ lsd S r q = 0 := by
  obtain ⟨q, h1, h2⟩ := (hL r hr h3).1
  exact ⟨q, by have := hW.p; omega, h2⟩
section JRD
variable {x : jv_X} {G : jv_G} {y : MethodName} {cc : ByteArray} {nL fr mc ms lo : Nat} {ret : Option FieldType} {Q : State → Prop} {M : jv_M} {k n pc : Nat} {lv : List (Nat × Value)} {st rest : List Value} {σ : jk_A} {τ : Nat → Nat} {S : Nat → Nat} {r a index : Nat}
theorem jv_Run.ans {e e' : Int32} {mc' ms' : Nat} {a : Array Value} (h : jv_Run x G nL M k n mc' ms' pc lv st rest (jv_qi G (jv_pi e M) a)) (he : e = e') : jv_Run x G nL M k n mc' ms' pc lv st rest (jv_qi G (jv_pi e' M) a) := he ▸ h
theorem jr_cast (X : jv_C x G y cc nL ret fr mc ms lo) (d : decode cc pc = .ok (.checkcast index, 3)) (hl : Cond.classLink y.cls index "VersionSolver$Rule" ∈ lw_all) (hr : jrule G M τ S r a) (kk : jv_J x G nL Q M k n (pc + 3) lv (.ref a :: rest)) : jv_J x G nL Q M k n pc lv (.ref a :: rest) := by
  obtain ⟨-, ⟨-, h⟩ | ⟨-, h⟩ | ⟨-, h⟩ | ⟨-, e, f, -, h, -⟩⟩ := hr
  · exact jv_castA X d h (r := (RX6, TX6, 4)) rfl hl q2501 kk
  · exact jv_castA X d h (r := (RX8, TX8, 4)) rfl hl q2500 kk
  · exact jv_castA X d h (r := (RX9, TX9, 4)) rfl hl q2498 kk
  · exact jv_castA X d h (r := (RX13, TX13, 5)) rfl hl q2499 kk
theorem jr_rangeN {host : String} (X : jv_C x G y cc nL ret fr mc ms lo) (d : decode cc pc = .ok (.getfield index, 3)) (hl : Cond.fieldLinkNest y.cls index "VersionSolver$Rule" "range" "I" host ∈ lw_tbl) (hr : jrule G M τ S r a) (h3 : ¬ v_ofRule S r 0 = 3) (kk : jv_J x G nL Q M k n (pc + 3) lv (.int (nI (v_ofRule S r 4)) :: rest)) : jv_J x G nL Q M k n pc lv (.ref a :: rest) := by
  obtain ⟨-, ⟨-, h⟩ | ⟨-, h⟩ | ⟨-, h⟩ | ⟨h, -⟩⟩ := hr
  · exact jv_getN X d h (T := TX6) (N := 4) (C := RX6) rfl in_X6 3 (by decide) hl rfl rfl kk
  · exact jv_getN X d h (T := TX8) (N := 4) (C := RX8) rfl in_X8 3 (by decide) hl rfl rfl kk
  · exact jv_getN X d h (T := TX9) (N := 4) (C := RX9) rfl in_X9 3 (by decide) hl rfl rfl kk
  · exact absurd h h3
theorem jr_range (X : jv_C x G y cc nL ret fr mc ms lo) (d : decode cc pc = .ok (.getfield index, 3)) (hl : Cond.fieldLink y.cls index "VersionSolver$Rule" "range" "I" ∈ lw_all) (hr : jrule G M τ S r a) (h3 : ¬ v_ofRule S r 0 = 3) (kk : jv_J x G nL Q M k n (pc + 3) lv (.int (nI (v_ofRule S r 4)) :: rest)) : jv_J x G nL Q M k n pc lv (.ref a :: rest) := by
  obtain ⟨-, ⟨-, h⟩ | ⟨-, h⟩ | ⟨-, h⟩ | ⟨h, -⟩⟩ := hr
  · exact jv_get X d h (T := TX6) (N := 4) (C := RX6) rfl in_X6 3 (by decide) hl rfl rfl kk
  · exact jv_get X d h (T := TX8) (N := 4) (C := RX8) rfl in_X8 3 (by decide) hl rfl rfl kk
  · exact jv_get X d h (T := TX9) (N := 4) (C := RX9) rfl in_X9 3 (by decide) hl rfl rfl kk
  · exact absurd h h3
theorem jr_kind  (X : jv_C x G y cc nL ret fr mc ms lo) (d : decode cc pc = .ok (.invokevirtual index, 3)) (hl : Cond.methodLink y.cls index yA_Rule_kind ∈ lw_all) (hr : jrule G M τ S r a)  (hfr : 8 ≤ fr) (hlo : 260 ≤ lo) (hk : k + 0 ≤ mc) (hn : n + 0 ≤ ms) (hrm : (rest.map fun v => v.category).sum ≤ 8) : jv_Run x G nL M k n 0 0 pc lv ([].reverse ++ .ref a :: rest) rest (jv_qi G (jv_pi (nI (v_ofRule S r 0)) M) (Value.ref a :: []).toArray) := by
  obtain ⟨-, ⟨h0, h⟩ | ⟨h0, h⟩ | ⟨h0, h⟩ | ⟨h0, e, f, -, h, he, hf⟩⟩ := hr
  · refine jv_Run.ans (jv_runU (C := RX6) (T := TX6) (N := 4) (As := []) X d c_X6_kind (jv_cuA X (lw_U (x := yA_Rule_kind) hl q815 q825 q826 q111 q827) q814 ⟨by decide, by decide⟩ hd_yA_Rule_kind (by omega) (by omega)) h rfl hk hn rfl hrm) ?_
    rw [h0]
  · refine jv_Run.ans (jv_runU (C := RX8) (T := TX8) (N := 4) (As := []) X d c_X8_kind (jv_cuA X (lw_U (x := yA_Rule_kind) hl q815 q822 q823 q113 q824) q814 ⟨by decide, by decide⟩ hd_yA_Rule_kind (by omega) (by omega)) h rfl hk hn rfl hrm) ?_
    rw [h0]
  · refine jv_Run.ans (jv_runU (C := RX9) (T := TX9) (N := 4) (As := []) X d c_X9_kind (jv_cuA X (lw_U (x := yA_Rule_kind) hl q815 q816 q817 q114 q818) q814 ⟨by decide, by decide⟩ hd_yA_Rule_kind (by omega) (by omega)) h rfl hk hn rfl hrm) ?_
    rw [h0]
  · refine jv_Run.ans (jv_runU (C := RX13) (T := TX13) (N := 5) (As := []) X d c_X13_kind (jv_cuA X (lw_U (x := yA_Rule_kind) hl q815 q819 q820 q121 q821) q814 ⟨by decide, by decide⟩ hd_yA_Rule_kind (by omega) (by omega)) h rfl hk hn rfl hrm) ?_
    rw [h0]
theorem jr_what  (X : jv_C x G y cc nL ret fr mc ms lo) (d : decode cc pc = .ok (.invokevirtual index, 3)) (hl : Cond.methodLink y.cls index yX5_what ∈ lw_all) (hr : jrule G M τ S r a) (w_ : Int32) (hfr : 8 ≤ fr) (hlo : 260 ≤ lo) (hk : k + 0 ≤ mc) (hn : n + 0 ≤ ms) (hrm : (rest.map fun v => v.category).sum ≤ 8) : jv_Run x G nL M k n 0 0 pc lv ([.int w_].reverse ++ .ref a :: rest) rest (jv_qi G (jv_pi (rWht S r w_) M) (Value.ref a :: [.int w_]).toArray) := by
  obtain ⟨-, ⟨h0, h⟩ | ⟨h0, h⟩ | ⟨h0, h⟩ | ⟨h0, e, f, -, h, he, hf⟩⟩ := hr
  · refine jv_Run.ans (jv_runU (C := RX6) (T := TX6) (N := 4) (As := [.int w_]) X d (c_X5_what_X6 h w_) (jv_cuI X (lw_U (x := yX5_what) hl q797 q829 q796 q110 q812) rfl ⟨by decide, by decide⟩ hd_X5_what (by omega) (by omega)) h rfl hk hn rfl hrm) ?_
    unfold rWht; first | (rw [h0]; done) | (rw [h0]; rfl)
  · refine jv_Run.ans (jv_runU (C := RX8) (T := TX8) (N := 4) (As := [.int w_]) X d (c_X5_what_X8 h w_) (jv_cuI X (lw_U (x := yX5_what) hl q797 q828 q796 q110 q812) rfl ⟨by decide, by decide⟩ hd_X5_what (by omega) (by omega)) h rfl hk hn rfl hrm) ?_
    unfold rWht; first | (rw [h0]; done) | (rw [h0]; rfl)
  · refine jv_Run.ans (jv_runU (C := RX9) (T := TX9) (N := 4) (As := [.int w_]) X d (c_X5_what_X9 h w_) (jv_cuI X (lw_U (x := yX5_what) hl q797 q798 q796 q110 q812) rfl ⟨by decide, by decide⟩ hd_X5_what (by omega) (by omega)) h rfl hk hn rfl hrm) ?_
    unfold rWht; first | (rw [h0]; done) | (rw [h0]; rfl)
  · refine jv_Run.ans (jv_runU (C := RX13) (T := TX13) (N := 5) (As := [.int w_]) X d (c_X13_what h he hf w_) (jv_cuO X (lw_O (x := yX5_what) hl q797 q796 q799 q800 q121 q801) q812 ⟨by decide, by decide⟩ hd_X5_what (by omega) (by omega)) h rfl hk hn rfl hrm) ?_
    unfold rWht; first | (rw [h0]; done) | (rw [h0]; rfl)
theorem jr_stateOf  (X : jv_C x G y cc nL ret fr mc ms lo) (d : decode cc pc = .ok (.invokevirtual index, 3)) (hl : Cond.methodLink y.cls index yX5_stateOf ∈ lw_all) (hr : jrule G M τ S r a) (q : Nat) (hq : q < 6) (hfr : 8 ≤ fr) (hlo : 260 ≤ lo) (hk : k + 0 ≤ mc) (hn : n + 0 ≤ ms) (hrm : (rest.map fun v => v.category).sum ≤ 8) : jv_Run x G nL M k n 0 0 pc lv ([.int (nI q)].reverse ++ .ref a :: rest) rest (jv_qi G (jv_pi (rSta S r q) M) (Value.ref a :: [.int (nI q)]).toArray) := by
  obtain ⟨-, ⟨h0, h⟩ | ⟨h0, h⟩ | ⟨h0, h⟩ | ⟨h0, e, f, -, h, he, hf⟩⟩ := hr
  · refine jv_Run.ans (jv_runU (C := RX6) (T := TX6) (N := 4) (As := [.int (nI q)]) X d (c_X5_stateOf (nI q)) (jv_cuI X (lw_U (x := yX5_stateOf) hl q836 q842 q835 q110 q843) rfl ⟨by decide, by decide⟩ hd_X5_stateOf (by omega) (by omega)) h rfl hk hn rfl hrm) ?_
    unfold rSta; first | (rw [h0]; done) | (rw [h0]; rfl)
  · refine jv_Run.ans (jv_runU (C := RX8) (T := TX8) (N := 4) (As := [.int (nI q)]) X d (c_X5_stateOf (nI q)) (jv_cuI X (lw_U (x := yX5_stateOf) hl q836 q841 q835 q110 q843) rfl ⟨by decide, by decide⟩ hd_X5_stateOf (by omega) (by omega)) h rfl hk hn rfl hrm) ?_
    unfold rSta; first | (rw [h0]; done) | (rw [h0]; rfl)
  · refine jv_Run.ans (jv_runU (C := RX9) (T := TX9) (N := 4) (As := [.int (nI q)]) X d (c_X5_stateOf (nI q)) (jv_cuI X (lw_U (x := yX5_stateOf) hl q836 q837 q835 q110 q843) rfl ⟨by decide, by decide⟩ hd_X5_stateOf (by omega) (by omega)) h rfl hk hn rfl hrm) ?_
    unfold rSta; first | (rw [h0]; done) | (rw [h0]; rfl)
  · refine jv_Run.ans (jv_runU (C := RX13) (T := TX13) (N := 5) (As := [.int (nI q)]) X d (c_X13_stateOf h he hf q hq) (jv_cuO X (lw_O (x := yX5_stateOf) hl q836 q835 q838 q839 q121 q840) q843 ⟨by decide, by decide⟩ hd_X5_stateOf (by omega) (by omega)) h rfl hk hn rfl hrm) ?_
    unfold rSta; first | (rw [h0]; done) | (rw [h0]; rfl)
theorem jr_isOf  (X : jv_C x G y cc nL ret fr mc ms lo) (d : decode cc pc = .ok (.invokevirtual index, 3)) (hl : Cond.methodLink y.cls index yX5_isOf ∈ lw_all) (hr : jrule G M τ S r a) (hW : wfB S) (hr3 : r < 30) (u w : Nat) (hu : u < 2 ^ 31) (hw : w < 2 ^ 31) (hfr : 8 ≤ fr) (hlo : 260 ≤ lo) (hk : k + 0 ≤ mc) (hn : n + 0 ≤ ms) (hrm : (rest.map fun v => v.category).sum ≤ 8) : jv_Run x G nL M k n 0 0 pc lv ([.int (nI u), .int (nI w)].reverse ++ .ref a :: rest) rest (jv_qi G (jv_pi (bI (rIs S r u w)) M) (Value.ref a :: [.int (nI u), .int (nI w)]).toArray) := by
  obtain ⟨-, ⟨h0, h⟩ | ⟨h0, h⟩ | ⟨h0, h⟩ | ⟨h0, e, f, -, h, he, hf⟩⟩ := hr
  · refine jv_Run.ans (jv_runU (C := RX6) (T := TX6) (N := 4) (As := [.int (nI u), .int (nI w)]) X d (c_X5_isOf (nI u) (nI w)) (jv_cuI X (lw_U (x := yX5_isOf) hl q629 q635 q628 q110 q636) rfl ⟨by decide, by decide⟩ hd_X5_isOf (by omega) (by omega)) h rfl hk hn rfl hrm) ?_
    unfold rIs; first | (rw [h0]; done) | (rw [h0]; rfl)
  · refine jv_Run.ans (jv_runU (C := RX8) (T := TX8) (N := 4) (As := [.int (nI u), .int (nI w)]) X d (c_X7_isOf_X8 h u w (hW.r1 hr3) (Nat.lt_trans (hW.r2 hr3) (by decide)) hu hw) (jv_cuO X (lw_O (x := yX5_isOf) hl q629 q628 q634 q631 q112 q632) q636 ⟨by decide, by decide⟩ hd_X5_isOf (by omega) (by omega)) h rfl hk hn rfl hrm) ?_
    unfold rIs; first | (rw [h0]; done) | (rw [h0]; rfl)
  · refine jv_Run.ans (jv_runU (C := RX9) (T := TX9) (N := 4) (As := [.int (nI u), .int (nI w)]) X d (c_X7_isOf_X9 h u w (hW.r1 hr3) (Nat.lt_trans (hW.r2 hr3) (by decide)) hu hw) (jv_cuO X (lw_O (x := yX5_isOf) hl q629 q628 q630 q631 q112 q632) q636 ⟨by decide, by decide⟩ hd_X5_isOf (by omega) (by omega)) h rfl hk hn rfl hrm) ?_
    unfold rIs; first | (rw [h0]; done) | (rw [h0]; rfl)
  · refine jv_Run.ans (jv_runU (C := RX13) (T := TX13) (N := 5) (As := [.int (nI u), .int (nI w)]) X d (c_X5_isOf (nI u) (nI w)) (jv_cuI X (lw_U (x := yX5_isOf) hl q629 q633 q628 q110 q636) rfl ⟨by decide, by decide⟩ hd_X5_isOf (by omega) (by omega)) h rfl hk hn rfl hrm) ?_
    unfold rIs; first | (rw [h0]; done) | (rw [h0]; rfl)
theorem jr_reaches  (X : jv_C x G y cc nL ret fr mc ms lo) (d : decode cc pc = .ok (.invokevirtual index, 3)) (hl : Cond.methodLink y.cls index yX5_reaches ∈ lw_all) (hr : jrule G M τ S r a) (hW : wfB S) (hr3 : r < 30) (u w : Nat) (hu : u < 2 ^ 31) (hw : w < 2 ^ 31) (hfr : 8 ≤ fr) (hlo : 260 ≤ lo) (hk : k + 0 ≤ mc) (hn : n + 0 ≤ ms) (hrm : (rest.map fun v => v.category).sum ≤ 8) : jv_Run x G nL M k n 0 0 pc lv ([.int (nI u), .int (nI w)].reverse ++ .ref a :: rest) rest (jv_qi G (jv_pi (rRea S r u w) M) (Value.ref a :: [.int (nI u), .int (nI w)]).toArray) := by
  obtain ⟨-, ⟨h0, h⟩ | ⟨h0, h⟩ | ⟨h0, h⟩ | ⟨h0, e, f, -, h, he, hf⟩⟩ := hr
  · refine jv_Run.ans (jv_runU (C := RX6) (T := TX6) (N := 4) (As := [.int (nI u), .int (nI w)]) X d (c_X5_reaches (nI u) (nI w)) (jv_cuI X (lw_U (x := yX5_reaches) hl q1262 q1277 q1261 q110 q1276) rfl ⟨by decide, by decide⟩ hd_X5_reaches (by omega) (by omega)) h rfl hk hn rfl hrm) ?_
    unfold rRea; first | (rw [h0]; done) | (rw [h0]; rfl)
  · refine jv_Run.ans (jv_runU (C := RX8) (T := TX8) (N := 4) (As := [.int (nI u), .int (nI w)]) X d (c_X8_reaches h u w (hW.r1 hr3) (Nat.lt_trans (hW.r2 hr3) (by decide)) hu hw) (jv_cuO X (lw_O (x := yX5_reaches) hl q1262 q1261 q1265 q1266 q113 q1267) q1276 ⟨by decide, by decide⟩ hd_X5_reaches (by omega) (by omega)) h rfl hk hn rfl hrm) ?_
    unfold rRea; first | (rw [h0]; done) | (rw [h0]; rfl)
  · refine jv_Run.ans (jv_runU (C := RX9) (T := TX9) (N := 4) (As := [.int (nI u), .int (nI w)]) X d (c_X5_reaches (nI u) (nI w)) (jv_cuI X (lw_U (x := yX5_reaches) hl q1262 q1263 q1261 q110 q1276) rfl ⟨by decide, by decide⟩ hd_X5_reaches (by omega) (by omega)) h rfl hk hn rfl hrm) ?_
    unfold rRea; first | (rw [h0]; done) | (rw [h0]; rfl)
  · refine jv_Run.ans (jv_runU (C := RX13) (T := TX13) (N := 5) (As := [.int (nI u), .int (nI w)]) X d (c_X5_reaches (nI u) (nI w)) (jv_cuI X (lw_U (x := yX5_reaches) hl q1262 q1264 q1261 q110 q1276) rfl ⟨by decide, by decide⟩ hd_X5_reaches (by omega) (by omega)) h rfl hk hn rfl hrm) ?_
    unfold rRea; first | (rw [h0]; done) | (rw [h0]; rfl)
theorem jr_wanted  (X : jv_C x G y cc nL ret fr mc ms lo) (d : decode cc pc = .ok (.invokevirtual index, 3)) (hl : Cond.methodLink y.cls index yX5_wanted ∈ lw_all) (hr : jrule G M τ S r a)  (hfr : 8 ≤ fr) (hlo : 260 ≤ lo) (hk : k + 0 ≤ mc) (hn : n + 0 ≤ ms) (hrm : (rest.map fun v => v.category).sum ≤ 8) : jv_Run x G nL M k n 0 0 pc lv ([].reverse ++ .ref a :: rest) rest (jv_qi G (jv_pi (rWan S r) M) (Value.ref a :: []).toArray) := by
  obtain ⟨-, ⟨h0, h⟩ | ⟨h0, h⟩ | ⟨h0, h⟩ | ⟨h0, e, f, -, h, he, hf⟩⟩ := hr
  · refine jv_Run.ans (jv_runU (C := RX6) (T := TX6) (N := 4) (As := []) X d (c_X6_wanted h) (jv_cuO X (lw_O (x := yX5_wanted) hl q1252 q1251 q1256 q1257 q111 q1258) q1259 ⟨by decide, by decide⟩ hd_X5_wanted (by omega) (by omega)) h rfl hk hn rfl hrm) ?_
    unfold rWan; first | (rw [h0]; done) | (rw [h0]; rfl)
  · refine jv_Run.ans (jv_runU (C := RX8) (T := TX8) (N := 4) (As := []) X d c_X5_wanted (jv_cuI X (lw_U (x := yX5_wanted) hl q1252 q1255 q1251 q110 q1259) rfl ⟨by decide, by decide⟩ hd_X5_wanted (by omega) (by omega)) h rfl hk hn rfl hrm) ?_
    unfold rWan; first | (rw [h0]; done) | (rw [h0]; rfl)
  · refine jv_Run.ans (jv_runU (C := RX9) (T := TX9) (N := 4) (As := []) X d c_X5_wanted (jv_cuI X (lw_U (x := yX5_wanted) hl q1252 q1253 q1251 q110 q1259) rfl ⟨by decide, by decide⟩ hd_X5_wanted (by omega) (by omega)) h rfl hk hn rfl hrm) ?_
    unfold rWan; first | (rw [h0]; done) | (rw [h0]; rfl)
  · refine jv_Run.ans (jv_runU (C := RX13) (T := TX13) (N := 5) (As := []) X d c_X5_wanted (jv_cuI X (lw_U (x := yX5_wanted) hl q1252 q1254 q1251 q110 q1259) rfl ⟨by decide, by decide⟩ hd_X5_wanted (by omega) (by omega)) h rfl hk hn rfl hrm) ?_
    unfold rWan; first | (rw [h0]; done) | (rw [h0]; rfl)
theorem jr_ranged  (X : jv_C x G y cc nL ret fr mc ms lo) (d : decode cc pc = .ok (.invokevirtual index, 3)) (hl : Cond.methodLink y.cls index yA_Rule_ranged ∈ lw_all) (hr : jrule G M τ S r a)  (hfr : 8 ≤ fr) (hlo : 260 ≤ lo) (hk : k + 0 ≤ mc) (hn : n + 0 ≤ ms) (hrm : (rest.map fun v => v.category).sum ≤ 8) : jv_Run x G nL M k n 0 0 pc lv ([].reverse ++ .ref a :: rest) rest (jv_qi G (jv_pi (rgI S r) M) (Value.ref a :: []).toArray) := by
  obtain ⟨-, ⟨h0, h⟩ | ⟨h0, h⟩ | ⟨h0, h⟩ | ⟨h0, e, f, -, h, he, hf⟩⟩ := hr
  · refine jv_Run.ans (jv_runU (C := RX6) (T := TX6) (N := 4) (As := []) X d (c_X6_ranged h) (jv_cuA X (lw_U (x := yA_Rule_ranged) hl q874 q882 q883 q111 q884) q873 ⟨by decide, by decide⟩ hd_yA_Rule_ranged (by omega) (by omega)) h rfl hk hn rfl hrm) ?_
    unfold rgI rgp; first | (rw [h0]; done) | (rw [h0]; rfl)
  · refine jv_Run.ans (jv_runU (C := RX8) (T := TX8) (N := 4) (As := []) X d (c_X7_ranged_X8 h) (jv_cuA X (lw_U (x := yA_Rule_ranged) hl q874 q881 q876 q112 q877) q873 ⟨by decide, by decide⟩ hd_yA_Rule_ranged (by omega) (by omega)) h rfl hk hn rfl hrm) ?_
    unfold rgI rgp; first | (rw [h0]; done) | (rw [h0]; rfl)
  · refine jv_Run.ans (jv_runU (C := RX9) (T := TX9) (N := 4) (As := []) X d (c_X7_ranged_X9 h) (jv_cuA X (lw_U (x := yA_Rule_ranged) hl q874 q875 q876 q112 q877) q873 ⟨by decide, by decide⟩ hd_yA_Rule_ranged (by omega) (by omega)) h rfl hk hn rfl hrm) ?_
    unfold rgI rgp; first | (rw [h0]; done) | (rw [h0]; rfl)
  · refine jv_Run.ans (jv_runU (C := RX13) (T := TX13) (N := 5) (As := []) X d c_X13_ranged (jv_cuA X (lw_U (x := yA_Rule_ranged) hl q874 q878 q879 q121 q880) q873 ⟨by decide, by decide⟩ hd_yA_Rule_ranged (by omega) (by omega)) h rfl hk hn rfl hrm) ?_
    unfold rgI; first | (rw [h0]; done) | (rw [h0]; rfl)
theorem jr_last  (X : jv_C x G y cc nL ret fr mc ms lo) (d : decode cc pc = .ok (.invokevirtual index, 3)) (hl : Cond.methodLink y.cls index yA_Rule_last ∈ lw_all) (hr : jrule G M τ S r a) (hW : wfB S) (hr3 : r < 30) (hx : v_ofRule S r 0 = 3 → ∃ q, q < 6 ∧ ¬ lsd S r q = 0) (hfr : 8 ≤ fr) (hlo : 260 ≤ lo) (hk : k + 0 ≤ mc) (hn : n + 0 ≤ ms) (hrm : (rest.map fun v => v.category).sum ≤ 8) : jv_Run x G nL M k n 0 0 pc lv ([].reverse ++ .ref a :: rest) rest (jv_qi G (jv_pi (nI (lst_ S r)) M) (Value.ref a :: []).toArray) := by
  obtain ⟨-, ⟨h0, h⟩ | ⟨h0, h⟩ | ⟨h0, h⟩ | ⟨h0, e, f, -, h, he, hf⟩⟩ := hr
  · refine jv_Run.ans (jv_runU (C := RX6) (T := TX6) (N := 4) (As := []) X d (c_X6_last h) (jv_cuA X (lw_U (x := yA_Rule_last) hl q1300 q1309 q1310 q111 q1311) q1299 ⟨by decide, by decide⟩ hd_yA_Rule_last (by omega) (by omega)) h rfl hk hn rfl hrm) ?_
    unfold lst_; first | (rw [h0]; done) | (rw [h0]; rfl)
  · refine jv_Run.ans (jv_runU (C := RX8) (T := TX8) (N := 4) (As := []) X d (c_X7_last_X8 h (hW.r1 hr3) (hW.r3 hr3)) (jv_cuA X (lw_U (x := yA_Rule_last) hl q1300 q1308 q1302 q112 q1303) q1299 ⟨by decide, by decide⟩ hd_yA_Rule_last (by omega) (by omega)) h rfl hk hn rfl hrm) ?_
    unfold lst_; rw [h0]; exact congrArg nI tcm.symm
  · refine jv_Run.ans (jv_runU (C := RX9) (T := TX9) (N := 4) (As := []) X d (c_X7_last_X9 h (hW.r1 hr3) (hW.r3 hr3)) (jv_cuA X (lw_U (x := yA_Rule_last) hl q1300 q1301 q1302 q112 q1303) q1299 ⟨by decide, by decide⟩ hd_yA_Rule_last (by omega) (by omega)) h rfl hk hn rfl hrm) ?_
    unfold lst_; rw [h0]; exact congrArg nI tcm.symm
  · refine jv_Run.ans (jv_runU (C := RX13) (T := TX13) (N := 5) (As := []) X d (c_X13_last h he hf (hx h0)) (jv_cuA X (lw_U (x := yA_Rule_last) hl q1300 q1305 q1306 q121 q1307) q1299 ⟨by decide, by decide⟩ hd_yA_Rule_last (by omega) (by omega)) h rfl hk hn rfl hrm) ?_
    unfold lst_; first | (rw [h0]; done) | (rw [h0]; rfl)
theorem jr_conditions  (X : jv_C x G y cc nL ret fr mc ms lo) (d : decode cc pc = .ok (.invokevirtual index, 3)) (hl : Cond.methodLink y.cls index yA_Rule_conditions ∈ lw_all) (hr : jrule G M τ S r a) (hW : wfB S) (hr3 : r < 30) (t : Nat) (ht : t < 6) (hfr : 8 ≤ fr) (hlo : 260 ≤ lo) (hk : k + 0 ≤ mc) (hn : n + 0 ≤ ms) (hrm : (rest.map fun v => v.category).sum ≤ 8) : jv_Run x G nL M k n 0 0 pc lv ([.int (nI t)].reverse ++ .ref a :: rest) rest (jv_qi G (jv_pi (nI (cnd S r t)) M) (Value.ref a :: [.int (nI t)]).toArray) := by
  obtain ⟨-, ⟨h0, h⟩ | ⟨h0, h⟩ | ⟨h0, h⟩ | ⟨h0, e, f, -, h, he, hf⟩⟩ := hr
  · refine jv_Run.ans (jv_runU (C := RX6) (T := TX6) (N := 4) (As := [.int (nI t)]) X d (c_X6_conditions t) (jv_cuA X (lw_U (x := yA_Rule_conditions) hl q960 q968 q969 q111 q970) q959 ⟨by decide, by decide⟩ hd_yA_Rule_conditions (by omega) (by omega)) h rfl hk hn rfl hrm) ?_
    unfold cnd; first | (rw [h0]; done) | (rw [h0]; rfl)
  · refine jv_Run.ans (jv_runU (C := RX8) (T := TX8) (N := 4) (As := [.int (nI t)]) X d (c_X7_conditions_X8 h t (hW.r1 hr3) (hW.r3 hr3) (by omega)) (jv_cuA X (lw_U (x := yA_Rule_conditions) hl q960 q967 q962 q112 q963) q959 ⟨by decide, by decide⟩ hd_yA_Rule_conditions (by omega) (by omega)) h rfl hk hn rfl hrm) ?_
    unfold cnd; first | (rw [h0]; done) | (rw [h0]; rfl)
  · refine jv_Run.ans (jv_runU (C := RX9) (T := TX9) (N := 4) (As := [.int (nI t)]) X d (c_X7_conditions_X9 h t (hW.r1 hr3) (hW.r3 hr3) (by omega)) (jv_cuA X (lw_U (x := yA_Rule_conditions) hl q960 q961 q962 q112 q963) q959 ⟨by decide, by decide⟩ hd_yA_Rule_conditions (by omega) (by omega)) h rfl hk hn rfl hrm) ?_
    unfold cnd; first | (rw [h0]; done) | (rw [h0]; rfl)
  · refine jv_Run.ans (jv_runU (C := RX13) (T := TX13) (N := 5) (As := [.int (nI t)]) X d (c_X13_conditions h he hf t ht) (jv_cuA X (lw_U (x := yA_Rule_conditions) hl q960 q964 q965 q121 q966) q959 ⟨by decide, by decide⟩ hd_yA_Rule_conditions (by omega) (by omega)) h rfl hk hn rfl hrm) ?_
    unfold cnd; first | (rw [h0]; done) | (rw [h0]; rfl)
theorem jr_isKept  {h1 : Nat} {fl : Nat → Int32} {c : Nat → Nat} (X : jv_C x G y cc nL ret fr mc ms lo) (d : decode cc pc = .ok (.invokevirtual index, 3)) (hl : Cond.methodLink y.cls index yA_Rule_isKept ∈ lw_all) (hr : jrule G M τ S r a) (hW : wfB S) (hr3 : r < 30) (hL : wfL S) (hrS : r < S 1) (hh : M h1 = some (.inl (G.2.2.1 0, 6, .inl fl))) (hc : ∀ p, p < 6 → fl p = nI (c p)) (hc6 : ∀ p, p < 6 → c p < 64) (hc5 : ∀ p, p < 6 → c p < 6)  (hfr : 8 ≤ fr) (hlo : 260 ≤ lo) (hk : k + 0 ≤ mc) (hn : n + 0 ≤ ms) (hrm : (rest.map fun v => v.category).sum ≤ 8) : jv_Run x G nL M k n 0 0 pc lv ([.int (nI (msk S r)), .ref h1].reverse ++ .ref a :: rest) rest (jv_qi G (jv_pi (bI (hld S r c)) M) (Value.ref a :: [.int (nI (msk S r)), .ref h1]).toArray) := by
  obtain ⟨-, ⟨h0, h⟩ | ⟨h0, h⟩ | ⟨h0, h⟩ | ⟨h0, e, f, -, h, he, hf⟩⟩ := hr
  · refine jv_Run.ans (jv_runU (C := RX6) (T := TX6) (N := 4) (As := [.int (nI (msk S r)), .ref h1]) X d (c_X6_isKept hh hc h (nI (msk S r)) (hW.r1 hr3)) (jv_cuA X (lw_U (x := yA_Rule_isKept) hl q1314 q1323 q1324 q111 q1325) q1313 ⟨by decide, by decide⟩ hd_yA_Rule_isKept (by omega) (by omega)) h rfl hk hn rfl hrm) ?_
    refine congrArg bI ?_
    rw [show msk S r = cov S (v_ofRule S r 1) (v_ofRule S r 4) by unfold msk rgp; rw [h0]; rfl]
    rw [hasI_b (by have := cov_lt hW (hW.r1 hr3) (v_ofRule S r 4); omega) (by have := hc5 _ (hW.r1 hr3); omega)]
    unfold hld hbit rgp
    rw [h0]
    rfl
  · refine jv_Run.ans (jv_runU (C := RX8) (T := TX8) (N := 4) (As := [.int (nI (msk S r)), .ref h1]) X d (c_X7_isKept_X8 hh hc h (nI (msk S r)) (hW.r1 hr3) (Nat.lt_trans (hW.r2 hr3) (by decide)) (hW.r3 hr3) hc6) (jv_cuA X (lw_U (x := yA_Rule_isKept) hl q1314 q1322 q1316 q112 q1317) q1313 ⟨by decide, by decide⟩ hd_yA_Rule_isKept (by omega) (by omega)) h rfl hk hn rfl hrm) ?_
    refine congrArg bI ?_
    rw [show msk S r = cov S (v_ofRule S r 3) (v_ofRule S r 4) by unfold msk rgp; rw [h0]; rfl]
    rw [hasI_b (by have := cov_lt hW (hW.r3 hr3) (v_ofRule S r 4); omega) (by have := hc5 _ (hW.r3 hr3); omega)]
    unfold hld hbit rgp
    rw [h0]
    by_cases z1 : c (v_ofRule S r 1) = v_ofRule S r 2 <;> by_cases z2 : cov S (v_ofRule S r 3) (v_ofRule S r 4) / 2 ^ c (v_ofRule S r 3) &&& 1 = 1 <;> first | (simp [z1, z2]; done) | (simp [z1]; rcases Nat.mod_two_eq_zero_or_one (cov S (v_ofRule S r 3) (v_ofRule S r 4) / 2 ^ c (v_ofRule S r 3)) with w | w <;> simp [w])
  · refine jv_Run.ans (jv_runU (C := RX9) (T := TX9) (N := 4) (As := [.int (nI (msk S r)), .ref h1]) X d (c_X7_isKept_X9 hh hc h (nI (msk S r)) (hW.r1 hr3) (Nat.lt_trans (hW.r2 hr3) (by decide)) (hW.r3 hr3) hc6) (jv_cuA X (lw_U (x := yA_Rule_isKept) hl q1314 q1315 q1316 q112 q1317) q1313 ⟨by decide, by decide⟩ hd_yA_Rule_isKept (by omega) (by omega)) h rfl hk hn rfl hrm) ?_
    refine congrArg bI ?_
    rw [show msk S r = cov S (v_ofRule S r 3) (v_ofRule S r 4) by unfold msk rgp; rw [h0]; rfl]
    rw [hasI_unv _ (by have := cov_lt hW (hW.r3 hr3) (v_ofRule S r 4); omega) _ (hc5 _ (hW.r3 hr3))]
    rw [hasI_b (by have := cov_lt hW (hW.r3 hr3) (v_ofRule S r 4); omega) (by have := hc5 _ (hW.r3 hr3); omega)]
    unfold hld hbit rgp
    rw [h0]
    by_cases z1 : c (v_ofRule S r 1) = v_ofRule S r 2 <;> by_cases z2 : cov S (v_ofRule S r 3) (v_ofRule S r 4) / 2 ^ c (v_ofRule S r 3) &&& 1 = 1 <;> first | (simp [z1, z2]; done) | (simp [z1]; rcases Nat.mod_two_eq_zero_or_one (cov S (v_ofRule S r 3) (v_ofRule S r 4) / 2 ^ c (v_ofRule S r 3)) with w | w <;> simp [w])
  · refine jv_Run.ans (jv_runU (C := RX13) (T := TX13) (N := 5) (As := [.int (nI (msk S r)), .ref h1]) X d (c_X13_isKept hh hc h he hf (nI (msk S r)) hc6) (jv_cuA X (lw_U (x := yA_Rule_isKept) hl q1314 q1319 q1320 q121 q1321) q1313 ⟨by decide, by decide⟩ hd_yA_Rule_isKept (by omega) (by omega)) h rfl hk hn rfl hrm) ?_
    exact congrArg bI (hl6_hld hW hL hrS h0)
theorem jr_impossible  {h1 : Nat} {fl : Nat → Int32} {c : Nat → Nat} (X : jv_C x G y cc nL ret fr mc ms lo) (d : decode cc pc = .ok (.invokevirtual index, 3)) (hl : Cond.methodLink y.cls index yA_Rule_impossible ∈ lw_all) (hr : jrule G M τ S r a) (hW : wfB S) (hr3 : r < 30) (hh : M h1 = some (.inl (G.2.2.1 0, 6, .inl fl))) (hc : ∀ p, p < 6 → fl p = nI (c p)) (hc6 : ∀ p, p < 6 → c p < 64) (t : Nat) (ht : t < 6) (hd : v_ofRule S r 0 = 3 → ¬ lsd S r t = 0) (hfr : 8 ≤ fr) (hlo : 260 ≤ lo) (hk : k + 0 ≤ mc) (hn : n + 0 ≤ ms) (hrm : (rest.map fun v => v.category).sum ≤ 8) : jv_Run x G nL M k n 0 0 pc lv ([.int (nI (msk S r)), .ref h1, .int (nI t)].reverse ++ .ref a :: rest) rest (jv_qi G (jv_pi (imp S r c t) M) (Value.ref a :: [.int (nI (msk S r)), .ref h1, .int (nI t)]).toArray) := by
  obtain ⟨-, ⟨h0, h⟩ | ⟨h0, h⟩ | ⟨h0, h⟩ | ⟨h0, e, f, -, h, he, hf⟩⟩ := hr
  · refine jv_Run.ans (jv_runU (C := RX6) (T := TX6) (N := 4) (As := [.int (nI (msk S r)), .ref h1, .int (nI t)]) X d (c_X6_impossible (nI (msk S r)) t) (jv_cuA X (lw_U (x := yA_Rule_impossible) hl q1089 q1093 q1094 q111 q1095) q1088 ⟨by decide, by decide⟩ hd_yA_Rule_impossible (by omega) (by omega)) h rfl hk hn rfl hrm) ?_
    unfold imp msk rgp; rw [h0]; rfl
  · refine jv_Run.ans (jv_runU (C := RX8) (T := TX8) (N := 4) (As := [.int (nI (msk S r)), .ref h1, .int (nI t)]) X d (c_X7_impossible_X8 hh hc h (nI (msk S r)) t (hW.r1 hr3) (Nat.lt_trans (hW.r2 hr3) (by decide)) (hW.r3 hr3) ht hc6) (jv_cuA X (lw_U (x := yA_Rule_impossible) hl q1089 q1092 q940 q112 q944) q1088 ⟨by decide, by decide⟩ hd_yA_Rule_impossible (by omega) (by omega)) h rfl hk hn rfl hrm) ?_
    unfold imp msk rgp barX; rw [h0]; simp [xor2]
  · refine jv_Run.ans (jv_runU (C := RX9) (T := TX9) (N := 4) (As := [.int (nI (msk S r)), .ref h1, .int (nI t)]) X d (c_X7_impossible_X9 hh hc h (nI (msk S r)) t (hW.r1 hr3) (Nat.lt_trans (hW.r2 hr3) (by decide)) (hW.r3 hr3) ht hc6) (jv_cuA X (lw_U (x := yA_Rule_impossible) hl q1089 q1090 q940 q112 q944) q1088 ⟨by decide, by decide⟩ hd_yA_Rule_impossible (by omega) (by omega)) h rfl hk hn rfl hrm) ?_
    unfold imp msk rgp barX; rw [h0]; simp [xor2]
  · refine jv_Run.ans (jv_runU (C := RX13) (T := TX13) (N := 5) (As := [.int (nI (msk S r)), .ref h1, .int (nI t)]) X d (c_X13_impossible hh hc h he hf (nI (msk S r)) t ht (hd h0) hc6) (jv_cuA X (lw_U (x := yA_Rule_impossible) hl q1089 q1091 q1008 q121 q1010) q1088 ⟨by decide, by decide⟩ hd_yA_Rule_impossible (by omega) (by omega)) h rfl hk hn rfl hrm) ?_
    unfold imp; first | (rw [h0]; done) | (rw [h0]; rfl)
end JRD
