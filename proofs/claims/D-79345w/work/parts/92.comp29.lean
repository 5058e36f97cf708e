/-! new rules -/
set_option maxRecDepth 100000
theorem jv_castI {x : jv_X} {G : jv_G} {y : MethodName} {cc : ByteArray} {nL fr mc ms lo : Nat} {ret : Option FieldType} {Q : State → Prop} {M : jv_M} {k n pc : Nat} {lv : List (Nat × Value)} {st : List Value} {i a N : Nat} {f : Nat → Int32} (X : jv_C x G y cc nL ret fr mc ms lo) (d : decode cc pc = .ok (.checkcast i, 3)) (hl1 : Cond.classLink y.cls i "[I" ∈ lw_all) (hm : M a = some (.inl (G.2.2.1 0, N, .inl f)))
    (kk : jv_J x G nL Q M k n (pc + 3) lv (.ref a :: st)) : jv_J x G nL Q M k n pc lv (.ref a :: st) := fun H locs ls hP hS hl =>
  va_castA X.exec X.code X.own (X.hts _ hl1) (jv_one hP hm) 0 rfl (show (jv_s x).vm.findClass "[I" = some (G.2.2.1 0) from (X.K.2 0 _ rfl).2) d (kk H locs ls hP hS hl)
theorem hd_X6_init : jv_dd yX6_init 2 := by unfold jv_dd; decide +kernel
set_option maxHeartbeats 4000000 in
theorem c_X6_init {l : Launch} {G : jv_G}  {σ : jk_A} (hG : jk_G G σ) {B : jv_M} {a : Nat} (hna : B a = none) (hfa : G.1 ≤ a) (p : Int32) (r : Int32)  : jv_Ct G l yX6_init cX6_init 3 (none) 2 1 4 51 [.ref a, .int p, .int r] (jv_up B a (.inr (5, [.int 0, .int 0, .int 0, .int 0]))) (jv_qv G (fun M' => M' a = some (.inr (5, [.int p, .int (-5), .int (-5), .int r])) ∧ jag B M')) := by
  refine jv_Ct.of (lv := [(0, .ref a), (1, .int p), (2, .int r)]) (by decide) (Nat.le_of_ble_eq_true rfl) rfl ?_
  intro x Q_ hl_ hQ X
  subst hl_
  refine jv_aload_n X dX6_init_0 0 rfl ?_
  refine jv_iconst (v := nI 4) X dX6_init_1 rfl ?_
  refine jv_newi (N := 4) (k1 := 1) (n1 := 4) X dX6_init_2 q563 (by decide) rfl (by decide) rfl rfl (Nat.le_of_ble_eq_true rfl) (Nat.le_of_ble_eq_true rfl) (fun q_1 hnq_1 hbq_1 => ?_)
  refine jv_dup X dX6_init_4 rfl ?_
  refine jv_iconst (v := nI 0) X dX6_init_5 rfl ?_
  refine jv_iload_n X dX6_init_6 1 rfl ?_
  refine jv_iast (g := upd (fun _ => 0) 0 p) X dX6_init_7 jv_up_s hbq_1 (jn_in (by decide) (by decide)) (by rw [nI_clamp (by decide)]) ?_
  rw [jv_up_up]
  refine jv_dup X dX6_init_8 rfl ?_
  refine jv_iconst (v := nI 1) X dX6_init_9 rfl ?_
  refine jv_bipush (v := (-5)) X dX6_init_10 rfl ?_
  refine jv_iast (g := upd (upd (fun _ => 0) 0 p) 1 (-5)) X dX6_init_12 jv_up_s hbq_1 (jn_in (by decide) (by decide)) (by rw [nI_clamp (by decide)]) ?_
  rw [jv_up_up]
  refine jv_dup X dX6_init_13 rfl ?_
  refine jv_iconst (v := nI 2) X dX6_init_14 rfl ?_
  refine jv_bipush (v := (-5)) X dX6_init_15 rfl ?_
  refine jv_iast (g := upd (upd (upd (fun _ => 0) 0 p) 1 (-5)) 2 (-5)) X dX6_init_17 jv_up_s hbq_1 (jn_in (by decide) (by decide)) (by rw [nI_clamp (by decide)]) ?_
  rw [jv_up_up]
  refine jv_dup X dX6_init_18 rfl ?_
  refine jv_iconst (v := nI 3) X dX6_init_19 rfl ?_
  refine jv_iload_n X dX6_init_20 2 rfl ?_
  refine jv_iast (g := upd (upd (upd (upd (fun _ => 0) 0 p) 1 (-5)) 2 (-5)) 3 r) X dX6_init_21 jv_up_s hbq_1 (jn_in (by decide) (by decide)) (by rw [nI_clamp (by decide)]) ?_
  rw [jv_up_up]
  refine jv_callv (jv_runI (As := [.ref q_1]) (rest := []) X dX6_init_22 (c_X5_init_X6 hfa jv_up_s ((jv_up_n (new_ne hnq_1 jv_up_s)).trans jv_up_s) p (-5) (-5) r rfl rfl rfl rfl) (lw_meth q699) q110 q697 q698 rfl hd_X5_init (Nat.le_of_ble_eq_true rfl) (Nat.le_of_ble_eq_true rfl) (by omega) (by omega) rfl (Nat.le_of_ble_eq_true rfl)) (fun M_ h_ => ?_)
  rw [h_]
  clear h_
  exact jv_vret X dX6_init_25 hQ (Nat.le_of_ble_eq_true rfl) (Nat.le_of_ble_eq_true rfl) ⟨jv_up_s, (jag.put (jag.new (jag.new jag.rf hna) hnq_1) hna)⟩
theorem hd_X7_init : jv_dd yX7_init 4 := by unfold jv_dd; decide +kernel
set_option maxHeartbeats 4000000 in
theorem c_X7_init_X8 {l : Launch} {G : jv_G}  {σ : jk_A} (hG : jk_G G σ) {B : jv_M} {a : Nat} (hna : B a = none) (hfa : G.1 ≤ a) (p : Int32) (v : Int32) (o : Int32) (r : Int32)  : jv_Ct G l yX7_init cX7_init 5 (none) 2 1 4 51 [.ref a, .int p, .int v, .int o, .int r] (jv_up B a (.inr (6, [.int 0, .int 0, .int 0, .int 0]))) (jv_qv G (fun M' => M' a = some (.inr (6, [.int p, .int v, .int o, .int r])) ∧ jag B M')) := by
  refine jv_Ct.of (lv := [(0, .ref a), (1, .int p), (2, .int v), (3, .int o), (4, .int r)]) (by decide) (Nat.le_of_ble_eq_true rfl) rfl ?_
  intro x Q_ hl_ hQ X
  subst hl_
  refine jv_aload_n X dX7_init_0 0 rfl ?_
  refine jv_iconst (v := nI 4) X dX7_init_1 rfl ?_
  refine jv_newi (N := 4) (k1 := 1) (n1 := 4) X dX7_init_2 q563 (by decide) rfl (by decide) rfl rfl (Nat.le_of_ble_eq_true rfl) (Nat.le_of_ble_eq_true rfl) (fun q_1 hnq_1 hbq_1 => ?_)
  refine jv_dup X dX7_init_4 rfl ?_
  refine jv_iconst (v := nI 0) X dX7_init_5 rfl ?_
  refine jv_iload_n X dX7_init_6 1 rfl ?_
  refine jv_iast (g := upd (fun _ => 0) 0 p) X dX7_init_7 jv_up_s hbq_1 (jn_in (by decide) (by decide)) (by rw [nI_clamp (by decide)]) ?_
  rw [jv_up_up]
  refine jv_dup X dX7_init_8 rfl ?_
  refine jv_iconst (v := nI 1) X dX7_init_9 rfl ?_
  refine jv_iload_n X dX7_init_10 2 rfl ?_
  refine jv_iast (g := upd (upd (fun _ => 0) 0 p) 1 v) X dX7_init_11 jv_up_s hbq_1 (jn_in (by decide) (by decide)) (by rw [nI_clamp (by decide)]) ?_
  rw [jv_up_up]
  refine jv_dup X dX7_init_12 rfl ?_
  refine jv_iconst (v := nI 2) X dX7_init_13 rfl ?_
  refine jv_iload_n X dX7_init_14 3 rfl ?_
  refine jv_iast (g := upd (upd (upd (fun _ => 0) 0 p) 1 v) 2 o) X dX7_init_15 jv_up_s hbq_1 (jn_in (by decide) (by decide)) (by rw [nI_clamp (by decide)]) ?_
  rw [jv_up_up]
  refine jv_dup X dX7_init_16 rfl ?_
  refine jv_iconst (v := nI 3) X dX7_init_17 rfl ?_
  refine jv_iload X dX7_init_18 4 rfl ?_
  refine jv_iast (g := upd (upd (upd (upd (fun _ => 0) 0 p) 1 v) 2 o) 3 r) X dX7_init_20 jv_up_s hbq_1 (jn_in (by decide) (by decide)) (by rw [nI_clamp (by decide)]) ?_
  rw [jv_up_up]
  refine jv_callv (jv_runI (As := [.ref q_1]) (rest := []) X dX7_init_21 (c_X5_init_X8 hfa jv_up_s ((jv_up_n (new_ne hnq_1 jv_up_s)).trans jv_up_s) p v o r rfl rfl rfl rfl) (lw_meth q699) q110 q750 q698 rfl hd_X5_init (Nat.le_of_ble_eq_true rfl) (Nat.le_of_ble_eq_true rfl) (by omega) (by omega) rfl (Nat.le_of_ble_eq_true rfl)) (fun M_ h_ => ?_)
  rw [h_]
  clear h_
  exact jv_vret X dX7_init_24 hQ (Nat.le_of_ble_eq_true rfl) (Nat.le_of_ble_eq_true rfl) ⟨jv_up_s, (jag.put (jag.new (jag.new jag.rf hna) hnq_1) hna)⟩
theorem hd_X8_init : jv_dd yX8_init 4 := by unfold jv_dd; decide +kernel
set_option maxHeartbeats 4000000 in
theorem c_X8_init {l : Launch} {G : jv_G}  {σ : jk_A} (hG : jk_G G σ) {B : jv_M} {a : Nat} (hna : B a = none) (hfa : G.1 ≤ a) (p : Int32) (v : Int32) (o : Int32) (r : Int32)  : jv_Ct G l yX8_init cX8_init 5 (none) 3 1 4 75 [.ref a, .int p, .int v, .int o, .int r] (jv_up B a (.inr (6, [.int 0, .int 0, .int 0, .int 0]))) (jv_qv G (fun M' => M' a = some (.inr (6, [.int p, .int v, .int o, .int r])) ∧ jag B M')) := by
  refine jv_Ct.of (lv := [(0, .ref a), (1, .int p), (2, .int v), (3, .int o), (4, .int r)]) (by decide) (Nat.le_of_ble_eq_true rfl) rfl ?_
  intro x Q_ hl_ hQ X
  subst hl_
  refine jv_aload_n X dX8_init_0 0 rfl ?_
  refine jv_iload_n X dX8_init_1 1 rfl ?_
  refine jv_iload_n X dX8_init_2 2 rfl ?_
  refine jv_iload_n X dX8_init_3 3 rfl ?_
  refine jv_iload X dX8_init_4 4 rfl ?_
  refine jv_callv (jv_runI (As := [.int p, .int v, .int o, .int r]) (rest := []) X dX8_init_6 (c_X7_init_X8 hG hna hfa p v o r) (lw_meth q749) q112 q747 q748 rfl hd_X7_init (Nat.le_of_ble_eq_true rfl) (Nat.le_of_ble_eq_true rfl) (by omega) (by omega) rfl (Nat.le_of_ble_eq_true rfl)) (fun M1_ h_ => ?_)
  exact jv_vret X dX8_init_9 hQ (Nat.le_of_ble_eq_true rfl) (Nat.le_of_ble_eq_true rfl) h_
set_option maxHeartbeats 4000000 in
theorem c_X7_init_X9 {l : Launch} {G : jv_G}  {σ : jk_A} (hG : jk_G G σ) {B : jv_M} {a : Nat} (hna : B a = none) (hfa : G.1 ≤ a) (p : Int32) (v : Int32) (o : Int32) (r : Int32)  : jv_Ct G l yX7_init cX7_init 5 (none) 2 1 4 51 [.ref a, .int p, .int v, .int o, .int r] (jv_up B a (.inr (7, [.int 0, .int 0, .int 0, .int 0]))) (jv_qv G (fun M' => M' a = some (.inr (7, [.int p, .int v, .int o, .int r])) ∧ jag B M')) := by
  refine jv_Ct.of (lv := [(0, .ref a), (1, .int p), (2, .int v), (3, .int o), (4, .int r)]) (by decide) (Nat.le_of_ble_eq_true rfl) rfl ?_
  intro x Q_ hl_ hQ X
  subst hl_
  refine jv_aload_n X dX7_init_0 0 rfl ?_
  refine jv_iconst (v := nI 4) X dX7_init_1 rfl ?_
  refine jv_newi (N := 4) (k1 := 1) (n1 := 4) X dX7_init_2 q563 (by decide) rfl (by decide) rfl rfl (Nat.le_of_ble_eq_true rfl) (Nat.le_of_ble_eq_true rfl) (fun q_1 hnq_1 hbq_1 => ?_)
  refine jv_dup X dX7_init_4 rfl ?_
  refine jv_iconst (v := nI 0) X dX7_init_5 rfl ?_
  refine jv_iload_n X dX7_init_6 1 rfl ?_
  refine jv_iast (g := upd (fun _ => 0) 0 p) X dX7_init_7 jv_up_s hbq_1 (jn_in (by decide) (by decide)) (by rw [nI_clamp (by decide)]) ?_
  rw [jv_up_up]
  refine jv_dup X dX7_init_8 rfl ?_
  refine jv_iconst (v := nI 1) X dX7_init_9 rfl ?_
  refine jv_iload_n X dX7_init_10 2 rfl ?_
  refine jv_iast (g := upd (upd (fun _ => 0) 0 p) 1 v) X dX7_init_11 jv_up_s hbq_1 (jn_in (by decide) (by decide)) (by rw [nI_clamp (by decide)]) ?_
  rw [jv_up_up]
  refine jv_dup X dX7_init_12 rfl ?_
  refine jv_iconst (v := nI 2) X dX7_init_13 rfl ?_
  refine jv_iload_n X dX7_init_14 3 rfl ?_
  refine jv_iast (g := upd (upd (upd (fun _ => 0) 0 p) 1 v) 2 o) X dX7_init_15 jv_up_s hbq_1 (jn_in (by decide) (by decide)) (by rw [nI_clamp (by decide)]) ?_
  rw [jv_up_up]
  refine jv_dup X dX7_init_16 rfl ?_
  refine jv_iconst (v := nI 3) X dX7_init_17 rfl ?_
  refine jv_iload X dX7_init_18 4 rfl ?_
  refine jv_iast (g := upd (upd (upd (upd (fun _ => 0) 0 p) 1 v) 2 o) 3 r) X dX7_init_20 jv_up_s hbq_1 (jn_in (by decide) (by decide)) (by rw [nI_clamp (by decide)]) ?_
  rw [jv_up_up]
  refine jv_callv (jv_runI (As := [.ref q_1]) (rest := []) X dX7_init_21 (c_X5_init_X9 hfa jv_up_s ((jv_up_n (new_ne hnq_1 jv_up_s)).trans jv_up_s) p v o r rfl rfl rfl rfl) (lw_meth q699) q110 q750 q698 rfl hd_X5_init (Nat.le_of_ble_eq_true rfl) (Nat.le_of_ble_eq_true rfl) (by omega) (by omega) rfl (Nat.le_of_ble_eq_true rfl)) (fun M_ h_ => ?_)
  rw [h_]
  clear h_
  exact jv_vret X dX7_init_24 hQ (Nat.le_of_ble_eq_true rfl) (Nat.le_of_ble_eq_true rfl) ⟨jv_up_s, (jag.put (jag.new (jag.new jag.rf hna) hnq_1) hna)⟩
theorem hd_X9_init : jv_dd yX9_init 4 := by unfold jv_dd; decide +kernel
set_option maxHeartbeats 4000000 in
theorem c_X9_init {l : Launch} {G : jv_G}  {σ : jk_A} (hG : jk_G G σ) {B : jv_M} {a : Nat} (hna : B a = none) (hfa : G.1 ≤ a) (p : Int32) (v : Int32) (o : Int32) (r : Int32)  : jv_Ct G l yX9_init cX9_init 5 (none) 3 1 4 75 [.ref a, .int p, .int v, .int o, .int r] (jv_up B a (.inr (7, [.int 0, .int 0, .int 0, .int 0]))) (jv_qv G (fun M' => M' a = some (.inr (7, [.int p, .int v, .int o, .int r])) ∧ jag B M')) := by
  refine jv_Ct.of (lv := [(0, .ref a), (1, .int p), (2, .int v), (3, .int o), (4, .int r)]) (by decide) (Nat.le_of_ble_eq_true rfl) rfl ?_
  intro x Q_ hl_ hQ X
  subst hl_
  refine jv_aload_n X dX9_init_0 0 rfl ?_
  refine jv_iload_n X dX9_init_1 1 rfl ?_
  refine jv_iload_n X dX9_init_2 2 rfl ?_
  refine jv_iload_n X dX9_init_3 3 rfl ?_
  refine jv_iload X dX9_init_4 4 rfl ?_
  refine jv_callv (jv_runI (As := [.int p, .int v, .int o, .int r]) (rest := []) X dX9_init_6 (c_X7_init_X9 hG hna hfa p v o r) (lw_meth q749) q112 q765 q748 rfl hd_X7_init (Nat.le_of_ble_eq_true rfl) (Nat.le_of_ble_eq_true rfl) (by omega) (by omega) rfl (Nat.le_of_ble_eq_true rfl)) (fun M1_ h_ => ?_)
  exact jv_vret X dX9_init_9 hQ (Nat.le_of_ble_eq_true rfl) (Nat.le_of_ble_eq_true rfl) h_
theorem hd_X13_init : jv_dd yX13_init 1 := by unfold jv_dd; decide +kernel
set_option maxHeartbeats 4000000 in
theorem c_X13_init {l : Launch} {G : jv_G}  {σ : jk_A} (hG : jk_G G σ) {B : jv_M} {a : Nat} (hna : B a = none) (hfa : G.1 ≤ a) {s : Nat} {g : Nat → Int32} (hs : B s = some (.inl (G.2.2.1 0, 6, .inl g))) (hfs : G.1 ≤ s)   : jv_Ct G l yX13_init cX13_init 2 (none) 2 2 10 51 [.ref a, .ref s] (jv_up B a (.inr (11, [.int 0, .int 0, .int 0, .int 0, .null]))) (jv_qv G (fun M' => ∃ e, M' a = some (.inr (11, [.int (-5), .int (-5), .int (-5), .int (-5), .ref e])) ∧ M' e = some (.inl (G.2.2.1 0, 6, .inl g)) ∧ B e = none ∧ G.1 ≤ e ∧ jag B M')) := by
  refine jv_Ct.of (lv := [(0, .ref a), (1, .ref s)]) (by decide) (Nat.le_of_ble_eq_true rfl) rfl ?_
  intro x Q_ hl_ hQ X
  subst hl_
  refine jv_aload_n X dX13_init_0 0 rfl ?_
  refine jv_iconst (v := nI 4) X dX13_init_1 rfl ?_
  refine jv_newi (N := 4) (k1 := 1) (n1 := 4) X dX13_init_2 q563 (by decide) rfl (by decide) rfl rfl (Nat.le_of_ble_eq_true rfl) (Nat.le_of_ble_eq_true rfl) (fun q_1 hnq_1 hbq_1 => ?_)
  refine jv_dup X dX13_init_4 rfl ?_
  refine jv_iconst (v := nI 0) X dX13_init_5 rfl ?_
  refine jv_bipush (v := (-5)) X dX13_init_6 rfl ?_
  refine jv_iast (g := upd (fun _ => 0) 0 (-5)) X dX13_init_8 jv_up_s hbq_1 (jn_in (by decide) (by decide)) (by rw [nI_clamp (by decide)]) ?_
  rw [jv_up_up]
  refine jv_dup X dX13_init_9 rfl ?_
  refine jv_iconst (v := nI 1) X dX13_init_10 rfl ?_
  refine jv_bipush (v := (-5)) X dX13_init_11 rfl ?_
  refine jv_iast (g := upd (upd (fun _ => 0) 0 (-5)) 1 (-5)) X dX13_init_13 jv_up_s hbq_1 (jn_in (by decide) (by decide)) (by rw [nI_clamp (by decide)]) ?_
  rw [jv_up_up]
  refine jv_dup X dX13_init_14 rfl ?_
  refine jv_iconst (v := nI 2) X dX13_init_15 rfl ?_
  refine jv_bipush (v := (-5)) X dX13_init_16 rfl ?_
  refine jv_iast (g := upd (upd (upd (fun _ => 0) 0 (-5)) 1 (-5)) 2 (-5)) X dX13_init_18 jv_up_s hbq_1 (jn_in (by decide) (by decide)) (by rw [nI_clamp (by decide)]) ?_
  rw [jv_up_up]
  refine jv_dup X dX13_init_19 rfl ?_
  refine jv_iconst (v := nI 3) X dX13_init_20 rfl ?_
  refine jv_bipush (v := (-5)) X dX13_init_21 rfl ?_
  refine jv_iast (g := upd (upd (upd (upd (fun _ => 0) 0 (-5)) 1 (-5)) 2 (-5)) 3 (-5)) X dX13_init_23 jv_up_s hbq_1 (jn_in (by decide) (by decide)) (by rw [nI_clamp (by decide)]) ?_
  rw [jv_up_up]
  refine jv_callv (jv_runI (As := [.ref q_1]) (rest := []) X dX13_init_24 (c_X5_init_X13 hfa jv_up_s ((jv_up_n (new_ne hnq_1 jv_up_s)).trans jv_up_s) (-5) (-5) (-5) (-5) rfl rfl rfl rfl) (lw_meth q699) q110 q1153 q698 rfl hd_X5_init (Nat.le_of_ble_eq_true rfl) (Nat.le_of_ble_eq_true rfl) (by omega) (by omega) rfl (Nat.le_of_ble_eq_true rfl)) (fun M_ h_ => ?_)
  rw [h_]
  clear h_
  refine jv_aload_n X dX13_init_27 0 rfl ?_
  refine jv_aload_n X dX13_init_28 1 rfl ?_
  refine jv_clonei (k1 := 2) (n1 := 10) X dX13_init_29 q1154 q1155 q1156 q1157 q1158 q1159 ((jag.put (jag.new (jag.new jag.rf hna) hnq_1) hna).c hs) hfs (Nat.le_of_ble_eq_true rfl) (Nat.le_of_ble_eq_true rfl) rfl rfl (Nat.le_of_ble_eq_true rfl) (Nat.le_of_ble_eq_true rfl) (fun q_2 hnq_2 hbq_2 => ?_)
  refine jv_castI X dX13_init_32 q1160 jv_up_s ?_
  refine jv_putF (fs' := [.int (-5), .int (-5), .int (-5), .int (-5), .ref q_2]) X dX13_init_35 ((jv_up_n (new_ne hnq_2 jv_up_s)).trans jv_up_s) hfa (T := TX13) (N := 5) (C := RX13) rfl in_X13 tyX13 tyX13_ok nmX13 4 (by decide) q1161 rfl rfl rfl rfl rfl rfl rfl (show 4 < 5 from by decide) rfl ?_
  exact jv_vret X dX13_init_38 hQ (Nat.le_of_ble_eq_true rfl) (Nat.le_of_ble_eq_true rfl) ⟨q_2, jv_up_s, ((jv_up_n (Ne.symm (new_ne hnq_2 jv_up_s))).trans jv_up_s), (jag.none (jag.put (jag.new (jag.new jag.rf hna) hnq_1) hna) hnq_2), hbq_2, (jag.put (jag.new (jag.put (jag.new (jag.new jag.rf hna) hnq_1) hna) hnq_2) hna)⟩
theorem hd_X0_whyNoTie : jv_dd yX0_whyNoTie 4 := by unfold jv_dd; decide +kernel
set_option maxHeartbeats 4000000 in
theorem c_X0_whyNoTie {l : Launch} {G : jv_G} {M : jv_M} {σ : jk_A} (hG : jk_G G σ) {τ : Nat → Nat} {xa b pa ip rp : Nat} {sv : Option Nat} {eA_ fA_ : Int32} {S : Nat → Nat} (hx : M xa = some (.inr (0, [.ref b, .ref pa, .ref ip, .ref rp, va_rf sv,   .int eA_, .int fA_]))) (hB : jbd G M τ b S) (hS : wfS S) (hL : wfL S) (hPP : wfP S) (hV : wfV S) (p_ : Int32) (v_ : Int32) (q_ : Int32) (r_ : Int32)  : jv_Ct G l yX0_whyNoTie cX0_whyNoTie 5 (some .int) 4 1 3 86 [.ref xa, .int p_, .int v_, .int q_, .int r_] M (jv_qi G (jv_pi (fst3 (nob (if v_isVersion S p_ v_ = true then v_isPack S q_ else false)) (bad_ (if p_ = q_ then false else v_isRange r_)) (ful (if 30 ≤ S 1 then false else true))) M)) := by
  refine jv_Ct.of (lv := [(0, .ref xa), (1, .int p_), (2, .int v_), (3, .int q_), (4, .int r_)]) (by decide) (Nat.le_of_ble_eq_true rfl) rfl ?_
  intro x Q_ hl_ hQ X
  subst hl_
  have hB_ := hB
  obtain ⟨lp, lr, la, P, R, A, hb, hfb, ⟨⟨mp_, ep, fp, hlp, hep, hn6, hfp, -, -, -⟩, hP⟩, ⟨⟨mr_, er, fr_, hlr, her, hn30, hfr_, -, -, -⟩, hR⟩, ⟨ma_, ea, fa, hla, hea, hn6a, hfa, -, -, -⟩, hA⟩ := hB
  have hW := hS.1
  have hp0 := hW.p
  have hr0 := hW.r
  have ha0 := hW.a
  refine jv_iconst (v := nI 3) X dX0_whyNoTie_0 rfl ?_
  refine jv_newi (N := 3) (k1 := 1) (n1 := 3) X dX0_whyNoTie_1 q563 (by decide) rfl (by decide) rfl rfl (Nat.le_of_ble_eq_true rfl) (Nat.le_of_ble_eq_true rfl) (fun q_1 hnq_1 hbq_1 => ?_)
  refine jv_dup X dX0_whyNoTie_3 rfl ?_
  refine jv_iconst (v := nI 0) X dX0_whyNoTie_4 rfl ?_
  refine jv_aload_n X dX0_whyNoTie_5 0 rfl ?_
  refine jv_aload_n X dX0_whyNoTie_6 0 rfl ?_
  refine jv_iload_n X dX0_whyNoTie_7 1 rfl ?_
  refine jv_iload_n X dX0_whyNoTie_8 2 rfl ?_
  refine jv_ask (jv_runV (As := [.int p_, .int v_]) (rest := [.ref xa, .int (nI 0), .ref q_1, .ref q_1]) X dX0_whyNoTie_9 (c_X0_isVersion hG ((jag.new jag.rf hnq_1).c hx) (hB_.sub (jag.new jag.rf hnq_1) hp0) hS hL hPP p_ v_) (lw_V q600 q602 qs10 q90 q603) hd_X0_isVersion ((jag.new jag.rf hnq_1).c hx) rfl (Nat.le_of_ble_eq_true rfl) (Nat.le_of_ble_eq_true rfl) (by omega) (by omega) rfl (Nat.le_of_ble_eq_true rfl)) ?_
  have j28_2 : ∀ w1 : Bool, w1 = (if (v_isVersion S p_ v_) = true then (if (v_isPack S q_) = true then true else false) else false) → jv_J x G 5 Q_ (jv_up M q_1 (.inl (G.2.2.1 0, 3, .inl (fun _ => 0)))) 1 3 28 [(0, .ref xa), (1, .int p_), (2, .int v_), (3, .int q_), (4, .int r_)] [.int (bI w1), .ref xa, .int (nI 0), .ref q_1, .ref q_1] := by
    intro w1 e_w1
    refine jv_ask (jv_runV (As := [.int (bI w1)]) (rest := [.int (nI 0), .ref q_1, .ref q_1]) X dX0_whyNoTie_28 (c_X0_nobody w1) (lw_V q519 q521 qs8 q90 q522) hd_X0_nobody ((jag.new jag.rf hnq_1).c hx) rfl (Nat.le_of_ble_eq_true rfl) (Nat.le_of_ble_eq_true rfl) (by omega) (by omega) rfl (Nat.le_of_ble_eq_true rfl)) ?_
    refine jv_iast (g := upd (fun _ => 0) 0 (nob w1)) X dX0_whyNoTie_31 jv_up_s hbq_1 (jn_in (by decide) (by decide)) (by rw [nI_clamp (by decide)]) ?_
    rw [jv_up_up]
    refine jv_dup X dX0_whyNoTie_32 rfl ?_
    refine jv_iconst (v := nI 1) X dX0_whyNoTie_33 rfl ?_
    refine jv_iload_n X dX0_whyNoTie_34 1 rfl ?_
    refine jv_iload_n X dX0_whyNoTie_35 3 rfl ?_
    have j52_3 : ∀ w2 : Bool, w2 = (if p_ = q_ then false else (if (v_isRange r_) = true then true else false)) → jv_J x G 5 Q_ (jv_up M q_1 (.inl (G.2.2.1 0, 3, .inl (upd (fun _ => 0) 0 (nob w1))))) 1 3 52 [(0, .ref xa), (1, .int p_), (2, .int v_), (3, .int q_), (4, .int r_)] [.int (bI w2), .int (nI 1), .ref q_1, .ref q_1] := by
      intro w2 e_w2
      refine jv_ask (jv_runS (As := [.int (bI w2)]) (rest := [.int (nI 1), .ref q_1, .ref q_1]) X dX0_whyNoTie_52 (c_X0_bad w2) (lw_S q526 q527 q90 q528) hd_X0_bad (Nat.le_of_ble_eq_true rfl) (Nat.le_of_ble_eq_true rfl) (by omega) (by omega) rfl (Nat.le_of_ble_eq_true rfl)) ?_
      refine jv_iast (g := upd (upd (fun _ => 0) 0 (nob w1)) 1 (bad_ w2)) X dX0_whyNoTie_55 jv_up_s hbq_1 (jn_in (by decide) (by decide)) (by rw [nI_clamp (by decide)]) ?_
      rw [jv_up_up]
      refine jv_dup X dX0_whyNoTie_56 rfl ?_
      refine jv_iconst (v := nI 2) X dX0_whyNoTie_57 rfl ?_
      refine jv_aload_n X dX0_whyNoTie_58 0 rfl ?_
      refine jv_get X dX0_whyNoTie_59 ((jag.new jag.rf hnq_1).c hx) (T := TX0) (N := 7) (C := RX0) rfl in_X0 0 (by decide) q257 rfl rfl ?_
      refine jv_getN X dX0_whyNoTie_62 ((jag.new jag.rf hnq_1).c hb) (T := TX1) (N := 3) (C := RX1) rfl in_X1 1 (by decide) q188 rfl rfl ?_
      refine jv_ask (jv_runV (As := []) (rest := [.int (nI 2), .ref q_1, .ref q_1]) X dX0_whyNoTie_65 (c_J2_size ((jag.new jag.rf hnq_1).c hlr)) (lw_V q283 q284 q285 q94 q286) hd_J2_size ((jag.new jag.rf hnq_1).c hlr) rfl (Nat.le_of_ble_eq_true rfl) (Nat.le_of_ble_eq_true rfl) (by omega) (by omega) rfl (Nat.le_of_ble_eq_true rfl)) ?_
      refine jv_bipush (v := nI 30) X dX0_whyNoTie_68 rfl ?_
      have j78_4 : ∀ w3 : Bool, w3 = (if 30 ≤ (S 1) then false else true) → jv_J x G 5 Q_ (jv_up M q_1 (.inl (G.2.2.1 0, 3, .inl (upd (upd (fun _ => 0) 0 (nob w1)) 1 (bad_ w2))))) 1 3 78 [(0, .ref xa), (1, .int p_), (2, .int v_), (3, .int q_), (4, .int r_)] [.int (bI w3), .int (nI 2), .ref q_1, .ref q_1] := by
        intro w3 e_w3
        refine jv_ask (jv_runS (As := [.int (bI w3)]) (rest := [.int (nI 2), .ref q_1, .ref q_1]) X dX0_whyNoTie_78 (c_X0_full w3) (lw_S q589 q590 q90 q591) hd_X0_full (Nat.le_of_ble_eq_true rfl) (Nat.le_of_ble_eq_true rfl) (by omega) (by omega) rfl (Nat.le_of_ble_eq_true rfl)) ?_
        refine jv_iast (g := upd (upd (upd (fun _ => 0) 0 (nob w1)) 1 (bad_ w2)) 2 (ful w3)) X dX0_whyNoTie_81 jv_up_s hbq_1 (jn_in (by decide) (by decide)) (by rw [nI_clamp (by decide)]) ?_
        rw [jv_up_up]
        refine jv_ask (jv_runS (As := [.ref q_1]) (rest := []) X dX0_whyNoTie_82 (c_X0_first_3 jv_up_s (nob w1) (bad_ w2) (ful w3) rfl rfl rfl) (lw_S q529 q530 q90 q531) hd_X0_first (Nat.le_of_ble_eq_true rfl) (Nat.le_of_ble_eq_true rfl) (by omega) (by omega) rfl (Nat.le_of_ble_eq_true rfl)) ?_
        refine jv_fewer (jag.few (jag.new jag.rf hnq_1)) ?_
        exact jv_iret (v := fst3 (nob w1) (bad_ w2) (ful w3)) X dX0_whyNoTie_85 rfl hQ (Nat.le_of_ble_eq_true rfl) (Nat.le_of_ble_eq_true rfl) ⟨(by rw [e_w1, e_w2, e_w3]; cases v_isVersion S p_ v_ <;> cases v_isPack S q_ <;> cases v_isRange r_ <;> by_cases z : p_ = q_ <;> simp [z]), rfl⟩
      refine jn_icmp_ge 77 X dX0_whyNoTie_70 (by decide) (by omega) (by decide) (fun c70 => ?_) (fun c70 => ?_)
      · skip
        refine jv_iconst (v := nI 0) X dX0_whyNoTie_77 rfl ?_
        exact j78_4 _ (if_pos c70).symm
      · skip
        refine jv_iconst (v := nI 1) X dX0_whyNoTie_73 rfl ?_
        refine jv_goto 78 X dX0_whyNoTie_74 (by decide) ?_
        exact j78_4 _ (if_neg (Nat.not_le.mpr c70)).symm
    refine jv_icmp_eq 51 X dX0_whyNoTie_36 (by decide) (fun c36 => ?_) (fun c36 => ?_)
    · skip
      refine jv_iconst (v := nI 0) X dX0_whyNoTie_51 rfl ?_
      exact j52_3 _ (if_pos c36).symm
    · skip
      refine jv_iload X dX0_whyNoTie_39 4 rfl ?_
      refine jv_ask (jv_runS (As := [.int r_]) (rest := [.int (nI 1), .ref q_1, .ref q_1]) X dX0_whyNoTie_41 (c_X0_isRange r_) (lw_S q641 q642 q90 q643) hd_X0_isRange (Nat.le_of_ble_eq_true rfl) (Nat.le_of_ble_eq_true rfl) (by omega) (by omega) rfl (Nat.le_of_ble_eq_true rfl)) ?_
      refine jb_if_eq 51 X dX0_whyNoTie_44 (by decide) (fun c44 => ?_) (fun c44 => ?_)
      · skip
        refine jv_iconst (v := nI 0) X dX0_whyNoTie_51 rfl ?_
        exact j52_3 _ ((if_neg c36).trans (if_neg (Bool.eq_false_iff.mp c44))).symm
      · skip
        refine jv_iconst (v := nI 1) X dX0_whyNoTie_47 rfl ?_
        refine jv_goto 52 X dX0_whyNoTie_48 (by decide) ?_
        exact j52_3 _ ((if_neg c36).trans (if_pos c44)).symm
  refine jb_if_eq 27 X dX0_whyNoTie_12 (by decide) (fun c12 => ?_) (fun c12 => ?_)
  · skip
    refine jv_iconst (v := nI 0) X dX0_whyNoTie_27 rfl ?_
    exact j28_2 _ (if_neg (Bool.eq_false_iff.mp c12)).symm
  · skip
    refine jv_aload_n X dX0_whyNoTie_15 0 rfl ?_
    refine jv_iload_n X dX0_whyNoTie_16 3 rfl ?_
    refine jv_ask (jv_runV (As := [.int q_]) (rest := [.ref xa, .int (nI 0), .ref q_1, .ref q_1]) X dX0_whyNoTie_17 (c_X0_isPack hG ((jag.new jag.rf hnq_1).c hx) (hB_.sub (jag.new jag.rf hnq_1) hp0) hS hL hPP q_) (lw_V q512 q514 qs7 q90 q515) hd_X0_isPack ((jag.new jag.rf hnq_1).c hx) rfl (Nat.le_of_ble_eq_true rfl) (Nat.le_of_ble_eq_true rfl) (by omega) (by omega) rfl (Nat.le_of_ble_eq_true rfl)) ?_
    refine jb_if_eq 27 X dX0_whyNoTie_20 (by decide) (fun c20 => ?_) (fun c20 => ?_)
    · skip
      refine jv_iconst (v := nI 0) X dX0_whyNoTie_27 rfl ?_
      exact j28_2 _ ((if_pos c12).trans (if_neg (Bool.eq_false_iff.mp c20))).symm
    · skip
      refine jv_iconst (v := nI 1) X dX0_whyNoTie_23 rfl ?_
      refine jv_goto 28 X dX0_whyNoTie_24 (by decide) ?_
      exact j28_2 _ ((if_pos c12).trans (if_pos c20)).symm
