/-! reference, seventeenth -/
set_option maxRecDepth 100000
set_option maxHeartbeats 4000000 in
theorem c_X2_init {l : Launch} {G : jv_G} {M : jv_M} (a : Nat) (hfr : G.1 ≤ a) : jv_Ct G l yX2_init cX2_init 1 none 1 14 3086 20 [.ref a] (jl M [(a, .inr (2, [.null, .null, .null, .null, .int 0, .int 0, .null, .int 0, .int 0, .int 0, .null, .int 0, .null, .null, .null, .null, .int 0, .int 0, .null, .null, .null, .int 0, .int 0, .int 0, .int 0, .null, .int 0]))]) (jv_qv G (fun M' => ∃ ad, M' = md_M G (M, a, ad) iF (fun _ _ => 0) ∧ md_K G (M, a, ad))) := by
  refine jv_Ct.of (lv := [(0, .ref a)]) (by decide) (Nat.le_of_ble_eq_true rfl) rfl ?_
  intro x Q_ hl_ hQ X
  subst hl_
  refine jv_aload_n X dX2_init_0 0 rfl ?_
  refine jv_obj0 X dX2_init_1 q2009 (Nat.le_of_ble_eq_true rfl) (Nat.le_of_ble_eq_true rfl) ?_
  refine jv_aload_n X dX2_init_4 0 rfl ?_
  refine jv_sipush (v := nI 237) X dX2_init_5 rfl ?_
  refine jv_newi (N := 237) (k1 := 1) (n1 := 237) X dX2_init_8 q563 (by decide) (by decide) (by decide) rfl rfl (by decide) (by decide) (fun q0 hn0 hb0 => ?_)
  rw [jl_new (jl_fresh hn0).1]
  show jv_J x G 1 Q_ (jl M [(a, .inr (2, [.null, .null, .null, .null, .int 0, .int 0, .null, .int 0, .int 0, .int 0, .null, .int 0, .null, .null, .null, .null, .int 0, .int 0, .null, .null, .null, .int 0, .int 0, .int 0, .int 0, .null, .int 0])), (q0, .inl (G.2.2.1 0, 237, .inl (fun _ => 0)))]) 1 237 10 [(0, .ref a)] [.ref q0, .ref a]
  refine jv_putF (fs' := [.ref q0, .null, .null, .null, .int 0, .int 0, .null, .int 0, .int 0, .int 0, .null, .int 0, .null, .null, .null, .null, .int 0, .int 0, .null, .null, .null, .int 0, .int 0, .int 0, .int 0, .null, .int 0]) X dX2_init_10 jl_hd hfr (T := TX2) (N := 27) (C := RX2) rfl in_X2 tyX2 tyX2_ok nmX2 0 (by decide) q2010 rfl rfl rfl rfl rfl rfl rfl (show 0 < 27 from by decide) rfl ?_
  rw [jl_put]
  refine jv_aload_n X dX2_init_13 0 rfl ?_
  refine jv_sipush (v := nI 237) X dX2_init_14 rfl ?_
  refine jv_newi (N := 237) (k1 := 2) (n1 := 474) X dX2_init_17 q563 (by decide) (by decide) (by decide) rfl rfl (by decide) (by decide) (fun q1 hn1 hb1 => ?_)
  rw [jl_new (jl_fresh hn1).1]
  show jv_J x G 1 Q_ (jl M [(a, .inr (2, [.ref q0, .null, .null, .null, .int 0, .int 0, .null, .int 0, .int 0, .int 0, .null, .int 0, .null, .null, .null, .null, .int 0, .int 0, .null, .null, .null, .int 0, .int 0, .int 0, .int 0, .null, .int 0])), (q0, .inl (G.2.2.1 0, 237, .inl (fun _ => 0))), (q1, .inl (G.2.2.1 0, 237, .inl (fun _ => 0)))]) 2 474 19 [(0, .ref a)] [.ref q1, .ref a]
  refine jv_putF (fs' := [.ref q0, .ref q1, .null, .null, .int 0, .int 0, .null, .int 0, .int 0, .int 0, .null, .int 0, .null, .null, .null, .null, .int 0, .int 0, .null, .null, .null, .int 0, .int 0, .int 0, .int 0, .null, .int 0]) X dX2_init_19 jl_hd hfr (T := TX2) (N := 27) (C := RX2) rfl in_X2 tyX2 tyX2_ok nmX2 1 (by decide) q2011 rfl rfl rfl rfl rfl rfl rfl (show 1 < 27 from by decide) rfl ?_
  rw [jl_put]
  refine jv_aload_n X dX2_init_22 0 rfl ?_
  refine jv_sipush (v := nI 237) X dX2_init_23 rfl ?_
  refine jv_newi (N := 237) (k1 := 3) (n1 := 711) X dX2_init_26 q563 (by decide) (by decide) (by decide) rfl rfl (by decide) (by decide) (fun q2 hn2 hb2 => ?_)
  rw [jl_new (jl_fresh hn2).1]
  show jv_J x G 1 Q_ (jl M [(a, .inr (2, [.ref q0, .ref q1, .null, .null, .int 0, .int 0, .null, .int 0, .int 0, .int 0, .null, .int 0, .null, .null, .null, .null, .int 0, .int 0, .null, .null, .null, .int 0, .int 0, .int 0, .int 0, .null, .int 0])), (q0, .inl (G.2.2.1 0, 237, .inl (fun _ => 0))), (q1, .inl (G.2.2.1 0, 237, .inl (fun _ => 0))), (q2, .inl (G.2.2.1 0, 237, .inl (fun _ => 0)))]) 3 711 28 [(0, .ref a)] [.ref q2, .ref a]
  refine jv_putF (fs' := [.ref q0, .ref q1, .ref q2, .null, .int 0, .int 0, .null, .int 0, .int 0, .int 0, .null, .int 0, .null, .null, .null, .null, .int 0, .int 0, .null, .null, .null, .int 0, .int 0, .int 0, .int 0, .null, .int 0]) X dX2_init_28 jl_hd hfr (T := TX2) (N := 27) (C := RX2) rfl in_X2 tyX2 tyX2_ok nmX2 2 (by decide) q2012 rfl rfl rfl rfl rfl rfl rfl (show 2 < 27 from by decide) rfl ?_
  rw [jl_put]
  refine jv_aload_n X dX2_init_31 0 rfl ?_
  refine jv_sipush (v := nI 1896) X dX2_init_32 rfl ?_
  refine jv_newi (N := 1896) (k1 := 4) (n1 := 2607) X dX2_init_35 q563 (by decide) (by decide) (by decide) rfl rfl (by decide) (by decide) (fun q3 hn3 hb3 => ?_)
  rw [jl_new (jl_fresh hn3).1]
  show jv_J x G 1 Q_ (jl M [(a, .inr (2, [.ref q0, .ref q1, .ref q2, .null, .int 0, .int 0, .null, .int 0, .int 0, .int 0, .null, .int 0, .null, .null, .null, .null, .int 0, .int 0, .null, .null, .null, .int 0, .int 0, .int 0, .int 0, .null, .int 0])), (q0, .inl (G.2.2.1 0, 237, .inl (fun _ => 0))), (q1, .inl (G.2.2.1 0, 237, .inl (fun _ => 0))), (q2, .inl (G.2.2.1 0, 237, .inl (fun _ => 0))), (q3, .inl (G.2.2.1 0, 1896, .inl (fun _ => 0)))]) 4 2607 37 [(0, .ref a)] [.ref q3, .ref a]
  refine jv_putF (fs' := [.ref q0, .ref q1, .ref q2, .ref q3, .int 0, .int 0, .null, .int 0, .int 0, .int 0, .null, .int 0, .null, .null, .null, .null, .int 0, .int 0, .null, .null, .null, .int 0, .int 0, .int 0, .int 0, .null, .int 0]) X dX2_init_37 jl_hd hfr (T := TX2) (N := 27) (C := RX2) rfl in_X2 tyX2 tyX2_ok nmX2 3 (by decide) q2013 rfl rfl rfl rfl rfl rfl rfl (show 3 < 27 from by decide) rfl ?_
  rw [jl_put]
  refine jv_aload_n X dX2_init_40 0 rfl ?_
  refine jv_bipush (v := nI 60) X dX2_init_41 rfl ?_
  refine jv_newi (N := 60) (k1 := 5) (n1 := 2667) X dX2_init_43 q563 (by decide) (by decide) (by decide) rfl rfl (by decide) (by decide) (fun q6 hn6 hb6 => ?_)
  rw [jl_new (jl_fresh hn6).1]
  show jv_J x G 1 Q_ (jl M [(a, .inr (2, [.ref q0, .ref q1, .ref q2, .ref q3, .int 0, .int 0, .null, .int 0, .int 0, .int 0, .null, .int 0, .null, .null, .null, .null, .int 0, .int 0, .null, .null, .null, .int 0, .int 0, .int 0, .int 0, .null, .int 0])), (q0, .inl (G.2.2.1 0, 237, .inl (fun _ => 0))), (q1, .inl (G.2.2.1 0, 237, .inl (fun _ => 0))), (q2, .inl (G.2.2.1 0, 237, .inl (fun _ => 0))), (q3, .inl (G.2.2.1 0, 1896, .inl (fun _ => 0))), (q6, .inl (G.2.2.1 0, 60, .inl (fun _ => 0)))]) 5 2667 45 [(0, .ref a)] [.ref q6, .ref a]
  refine jv_putF (fs' := [.ref q0, .ref q1, .ref q2, .ref q3, .int 0, .int 0, .ref q6, .int 0, .int 0, .int 0, .null, .int 0, .null, .null, .null, .null, .int 0, .int 0, .null, .null, .null, .int 0, .int 0, .int 0, .int 0, .null, .int 0]) X dX2_init_45 jl_hd hfr (T := TX2) (N := 27) (C := RX2) rfl in_X2 tyX2 tyX2_ok nmX2 6 (by decide) q2016 rfl rfl rfl rfl rfl rfl rfl (show 6 < 27 from by decide) rfl ?_
  rw [jl_put]
  refine jv_aload_n X dX2_init_48 0 rfl ?_
  refine jv_iconst (v := (-1)) X dX2_init_49 rfl ?_
  refine jv_put (fs' := [.ref q0, .ref q1, .ref q2, .ref q3, .int 0, .int 0, .ref q6, .int 0, .int (-1), .int 0, .null, .int 0, .null, .null, .null, .null, .int 0, .int 0, .null, .null, .null, .int 0, .int 0, .int 0, .int 0, .null, .int 0]) X dX2_init_50 jl_hd hfr (T := TX2) (N := 27) (C := RX2) rfl in_X2 tyX2 tyX2_ok nmX2 8 (by decide) q2018 rfl rfl  rfl rfl rfl (show 8 < 27 from by decide) rfl ?_
  rw [jl_put]
  refine jv_aload_n X dX2_init_53 0 rfl ?_
  refine jv_iconst (v := (-1)) X dX2_init_54 rfl ?_
  refine jv_put (fs' := [.ref q0, .ref q1, .ref q2, .ref q3, .int 0, .int 0, .ref q6, .int 0, .int (-1), .int (-1), .null, .int 0, .null, .null, .null, .null, .int 0, .int 0, .null, .null, .null, .int 0, .int 0, .int 0, .int 0, .null, .int 0]) X dX2_init_55 jl_hd hfr (T := TX2) (N := 27) (C := RX2) rfl in_X2 tyX2 tyX2_ok nmX2 9 (by decide) q2019 rfl rfl  rfl rfl rfl (show 9 < 27 from by decide) rfl ?_
  rw [jl_put]
  refine jv_aload_n X dX2_init_58 0 rfl ?_
  refine jv_bipush (v := nI 120) X dX2_init_59 rfl ?_
  refine jv_newi (N := 120) (k1 := 6) (n1 := 2787) X dX2_init_61 q563 (by decide) (by decide) (by decide) rfl rfl (by decide) (by decide) (fun q10 hn10 hb10 => ?_)
  rw [jl_new (jl_fresh hn10).1]
  show jv_J x G 1 Q_ (jl M [(a, .inr (2, [.ref q0, .ref q1, .ref q2, .ref q3, .int 0, .int 0, .ref q6, .int 0, .int (-1), .int (-1), .null, .int 0, .null, .null, .null, .null, .int 0, .int 0, .null, .null, .null, .int 0, .int 0, .int 0, .int 0, .null, .int 0])), (q0, .inl (G.2.2.1 0, 237, .inl (fun _ => 0))), (q1, .inl (G.2.2.1 0, 237, .inl (fun _ => 0))), (q2, .inl (G.2.2.1 0, 237, .inl (fun _ => 0))), (q3, .inl (G.2.2.1 0, 1896, .inl (fun _ => 0))), (q6, .inl (G.2.2.1 0, 60, .inl (fun _ => 0))), (q10, .inl (G.2.2.1 0, 120, .inl (fun _ => 0)))]) 6 2787 63 [(0, .ref a)] [.ref q10, .ref a]
  refine jv_putF (fs' := [.ref q0, .ref q1, .ref q2, .ref q3, .int 0, .int 0, .ref q6, .int 0, .int (-1), .int (-1), .ref q10, .int 0, .null, .null, .null, .null, .int 0, .int 0, .null, .null, .null, .int 0, .int 0, .int 0, .int 0, .null, .int 0]) X dX2_init_63 jl_hd hfr (T := TX2) (N := 27) (C := RX2) rfl in_X2 tyX2 tyX2_ok nmX2 10 (by decide) q2020 rfl rfl rfl rfl rfl rfl rfl (show 10 < 27 from by decide) rfl ?_
  rw [jl_put]
  refine jv_aload_n X dX2_init_66 0 rfl ?_
  refine jv_bipush (v := nI 6) X dX2_init_67 rfl ?_
  refine jv_newi (N := 6) (k1 := 7) (n1 := 2793) X dX2_init_69 q563 (by decide) (by decide) (by decide) rfl rfl (by decide) (by decide) (fun q12 hn12 hb12 => ?_)
  rw [jl_new (jl_fresh hn12).1]
  show jv_J x G 1 Q_ (jl M [(a, .inr (2, [.ref q0, .ref q1, .ref q2, .ref q3, .int 0, .int 0, .ref q6, .int 0, .int (-1), .int (-1), .ref q10, .int 0, .null, .null, .null, .null, .int 0, .int 0, .null, .null, .null, .int 0, .int 0, .int 0, .int 0, .null, .int 0])), (q0, .inl (G.2.2.1 0, 237, .inl (fun _ => 0))), (q1, .inl (G.2.2.1 0, 237, .inl (fun _ => 0))), (q2, .inl (G.2.2.1 0, 237, .inl (fun _ => 0))), (q3, .inl (G.2.2.1 0, 1896, .inl (fun _ => 0))), (q6, .inl (G.2.2.1 0, 60, .inl (fun _ => 0))), (q10, .inl (G.2.2.1 0, 120, .inl (fun _ => 0))), (q12, .inl (G.2.2.1 0, 6, .inl (fun _ => 0)))]) 7 2793 71 [(0, .ref a)] [.ref q12, .ref a]
  refine jv_putF (fs' := [.ref q0, .ref q1, .ref q2, .ref q3, .int 0, .int 0, .ref q6, .int 0, .int (-1), .int (-1), .ref q10, .int 0, .ref q12, .null, .null, .null, .int 0, .int 0, .null, .null, .null, .int 0, .int 0, .int 0, .int 0, .null, .int 0]) X dX2_init_71 jl_hd hfr (T := TX2) (N := 27) (C := RX2) rfl in_X2 tyX2 tyX2_ok nmX2 12 (by decide) q2022 rfl rfl rfl rfl rfl rfl rfl (show 12 < 27 from by decide) rfl ?_
  rw [jl_put]
  refine jv_aload_n X dX2_init_74 0 rfl ?_
  refine jv_bipush (v := nI 40) X dX2_init_75 rfl ?_
  refine jv_newi (N := 40) (k1 := 8) (n1 := 2833) X dX2_init_77 q563 (by decide) (by decide) (by decide) rfl rfl (by decide) (by decide) (fun q13 hn13 hb13 => ?_)
  rw [jl_new (jl_fresh hn13).1]
  show jv_J x G 1 Q_ (jl M [(a, .inr (2, [.ref q0, .ref q1, .ref q2, .ref q3, .int 0, .int 0, .ref q6, .int 0, .int (-1), .int (-1), .ref q10, .int 0, .ref q12, .null, .null, .null, .int 0, .int 0, .null, .null, .null, .int 0, .int 0, .int 0, .int 0, .null, .int 0])), (q0, .inl (G.2.2.1 0, 237, .inl (fun _ => 0))), (q1, .inl (G.2.2.1 0, 237, .inl (fun _ => 0))), (q2, .inl (G.2.2.1 0, 237, .inl (fun _ => 0))), (q3, .inl (G.2.2.1 0, 1896, .inl (fun _ => 0))), (q6, .inl (G.2.2.1 0, 60, .inl (fun _ => 0))), (q10, .inl (G.2.2.1 0, 120, .inl (fun _ => 0))), (q12, .inl (G.2.2.1 0, 6, .inl (fun _ => 0))), (q13, .inl (G.2.2.1 0, 40, .inl (fun _ => 0)))]) 8 2833 79 [(0, .ref a)] [.ref q13, .ref a]
  refine jv_putF (fs' := [.ref q0, .ref q1, .ref q2, .ref q3, .int 0, .int 0, .ref q6, .int 0, .int (-1), .int (-1), .ref q10, .int 0, .ref q12, .ref q13, .null, .null, .int 0, .int 0, .null, .null, .null, .int 0, .int 0, .int 0, .int 0, .null, .int 0]) X dX2_init_79 jl_hd hfr (T := TX2) (N := 27) (C := RX2) rfl in_X2 tyX2 tyX2_ok nmX2 13 (by decide) q2023 rfl rfl rfl rfl rfl rfl rfl (show 13 < 27 from by decide) rfl ?_
  rw [jl_put]
  refine jv_aload_n X dX2_init_82 0 rfl ?_
  refine jv_bipush (v := nI 40) X dX2_init_83 rfl ?_
  refine jv_newi (N := 40) (k1 := 9) (n1 := 2873) X dX2_init_85 q563 (by decide) (by decide) (by decide) rfl rfl (by decide) (by decide) (fun q14 hn14 hb14 => ?_)
  rw [jl_new (jl_fresh hn14).1]
  show jv_J x G 1 Q_ (jl M [(a, .inr (2, [.ref q0, .ref q1, .ref q2, .ref q3, .int 0, .int 0, .ref q6, .int 0, .int (-1), .int (-1), .ref q10, .int 0, .ref q12, .ref q13, .null, .null, .int 0, .int 0, .null, .null, .null, .int 0, .int 0, .int 0, .int 0, .null, .int 0])), (q0, .inl (G.2.2.1 0, 237, .inl (fun _ => 0))), (q1, .inl (G.2.2.1 0, 237, .inl (fun _ => 0))), (q2, .inl (G.2.2.1 0, 237, .inl (fun _ => 0))), (q3, .inl (G.2.2.1 0, 1896, .inl (fun _ => 0))), (q6, .inl (G.2.2.1 0, 60, .inl (fun _ => 0))), (q10, .inl (G.2.2.1 0, 120, .inl (fun _ => 0))), (q12, .inl (G.2.2.1 0, 6, .inl (fun _ => 0))), (q13, .inl (G.2.2.1 0, 40, .inl (fun _ => 0))), (q14, .inl (G.2.2.1 0, 40, .inl (fun _ => 0)))]) 9 2873 87 [(0, .ref a)] [.ref q14, .ref a]
  refine jv_putF (fs' := [.ref q0, .ref q1, .ref q2, .ref q3, .int 0, .int 0, .ref q6, .int 0, .int (-1), .int (-1), .ref q10, .int 0, .ref q12, .ref q13, .ref q14, .null, .int 0, .int 0, .null, .null, .null, .int 0, .int 0, .int 0, .int 0, .null, .int 0]) X dX2_init_87 jl_hd hfr (T := TX2) (N := 27) (C := RX2) rfl in_X2 tyX2 tyX2_ok nmX2 14 (by decide) q2024 rfl rfl rfl rfl rfl rfl rfl (show 14 < 27 from by decide) rfl ?_
  rw [jl_put]
  refine jv_aload_n X dX2_init_90 0 rfl ?_
  refine jv_bipush (v := nI 40) X dX2_init_91 rfl ?_
  refine jv_newi (N := 40) (k1 := 10) (n1 := 2913) X dX2_init_93 q563 (by decide) (by decide) (by decide) rfl rfl (by decide) (by decide) (fun q15 hn15 hb15 => ?_)
  rw [jl_new (jl_fresh hn15).1]
  show jv_J x G 1 Q_ (jl M [(a, .inr (2, [.ref q0, .ref q1, .ref q2, .ref q3, .int 0, .int 0, .ref q6, .int 0, .int (-1), .int (-1), .ref q10, .int 0, .ref q12, .ref q13, .ref q14, .null, .int 0, .int 0, .null, .null, .null, .int 0, .int 0, .int 0, .int 0, .null, .int 0])), (q0, .inl (G.2.2.1 0, 237, .inl (fun _ => 0))), (q1, .inl (G.2.2.1 0, 237, .inl (fun _ => 0))), (q2, .inl (G.2.2.1 0, 237, .inl (fun _ => 0))), (q3, .inl (G.2.2.1 0, 1896, .inl (fun _ => 0))), (q6, .inl (G.2.2.1 0, 60, .inl (fun _ => 0))), (q10, .inl (G.2.2.1 0, 120, .inl (fun _ => 0))), (q12, .inl (G.2.2.1 0, 6, .inl (fun _ => 0))), (q13, .inl (G.2.2.1 0, 40, .inl (fun _ => 0))), (q14, .inl (G.2.2.1 0, 40, .inl (fun _ => 0))), (q15, .inl (G.2.2.1 0, 40, .inl (fun _ => 0)))]) 10 2913 95 [(0, .ref a)] [.ref q15, .ref a]
  refine jv_putF (fs' := [.ref q0, .ref q1, .ref q2, .ref q3, .int 0, .int 0, .ref q6, .int 0, .int (-1), .int (-1), .ref q10, .int 0, .ref q12, .ref q13, .ref q14, .ref q15, .int 0, .int 0, .null, .null, .null, .int 0, .int 0, .int 0, .int 0, .null, .int 0]) X dX2_init_95 jl_hd hfr (T := TX2) (N := 27) (C := RX2) rfl in_X2 tyX2 tyX2_ok nmX2 15 (by decide) q2025 rfl rfl rfl rfl rfl rfl rfl (show 15 < 27 from by decide) rfl ?_
  rw [jl_put]
  refine jv_aload_n X dX2_init_98 0 rfl ?_
  refine jv_bipush (v := nI 6) X dX2_init_99 rfl ?_
  refine jv_newi (N := 6) (k1 := 11) (n1 := 2919) X dX2_init_101 q563 (by decide) (by decide) (by decide) rfl rfl (by decide) (by decide) (fun q18 hn18 hb18 => ?_)
  rw [jl_new (jl_fresh hn18).1]
  show jv_J x G 1 Q_ (jl M [(a, .inr (2, [.ref q0, .ref q1, .ref q2, .ref q3, .int 0, .int 0, .ref q6, .int 0, .int (-1), .int (-1), .ref q10, .int 0, .ref q12, .ref q13, .ref q14, .ref q15, .int 0, .int 0, .null, .null, .null, .int 0, .int 0, .int 0, .int 0, .null, .int 0])), (q0, .inl (G.2.2.1 0, 237, .inl (fun _ => 0))), (q1, .inl (G.2.2.1 0, 237, .inl (fun _ => 0))), (q2, .inl (G.2.2.1 0, 237, .inl (fun _ => 0))), (q3, .inl (G.2.2.1 0, 1896, .inl (fun _ => 0))), (q6, .inl (G.2.2.1 0, 60, .inl (fun _ => 0))), (q10, .inl (G.2.2.1 0, 120, .inl (fun _ => 0))), (q12, .inl (G.2.2.1 0, 6, .inl (fun _ => 0))), (q13, .inl (G.2.2.1 0, 40, .inl (fun _ => 0))), (q14, .inl (G.2.2.1 0, 40, .inl (fun _ => 0))), (q15, .inl (G.2.2.1 0, 40, .inl (fun _ => 0))), (q18, .inl (G.2.2.1 0, 6, .inl (fun _ => 0)))]) 11 2919 103 [(0, .ref a)] [.ref q18, .ref a]
  refine jv_putF (fs' := [.ref q0, .ref q1, .ref q2, .ref q3, .int 0, .int 0, .ref q6, .int 0, .int (-1), .int (-1), .ref q10, .int 0, .ref q12, .ref q13, .ref q14, .ref q15, .int 0, .int 0, .ref q18, .null, .null, .int 0, .int 0, .int 0, .int 0, .null, .int 0]) X dX2_init_103 jl_hd hfr (T := TX2) (N := 27) (C := RX2) rfl in_X2 tyX2 tyX2_ok nmX2 18 (by decide) q2028 rfl rfl rfl rfl rfl rfl rfl (show 18 < 27 from by decide) rfl ?_
  rw [jl_put]
  refine jv_aload_n X dX2_init_106 0 rfl ?_
  refine jv_bipush (v := nI 6) X dX2_init_107 rfl ?_
  refine jv_newi (N := 6) (k1 := 12) (n1 := 2925) X dX2_init_109 q563 (by decide) (by decide) (by decide) rfl rfl (by decide) (by decide) (fun q19 hn19 hb19 => ?_)
  rw [jl_new (jl_fresh hn19).1]
  show jv_J x G 1 Q_ (jl M [(a, .inr (2, [.ref q0, .ref q1, .ref q2, .ref q3, .int 0, .int 0, .ref q6, .int 0, .int (-1), .int (-1), .ref q10, .int 0, .ref q12, .ref q13, .ref q14, .ref q15, .int 0, .int 0, .ref q18, .null, .null, .int 0, .int 0, .int 0, .int 0, .null, .int 0])), (q0, .inl (G.2.2.1 0, 237, .inl (fun _ => 0))), (q1, .inl (G.2.2.1 0, 237, .inl (fun _ => 0))), (q2, .inl (G.2.2.1 0, 237, .inl (fun _ => 0))), (q3, .inl (G.2.2.1 0, 1896, .inl (fun _ => 0))), (q6, .inl (G.2.2.1 0, 60, .inl (fun _ => 0))), (q10, .inl (G.2.2.1 0, 120, .inl (fun _ => 0))), (q12, .inl (G.2.2.1 0, 6, .inl (fun _ => 0))), (q13, .inl (G.2.2.1 0, 40, .inl (fun _ => 0))), (q14, .inl (G.2.2.1 0, 40, .inl (fun _ => 0))), (q15, .inl (G.2.2.1 0, 40, .inl (fun _ => 0))), (q18, .inl (G.2.2.1 0, 6, .inl (fun _ => 0))), (q19, .inl (G.2.2.1 0, 6, .inl (fun _ => 0)))]) 12 2925 111 [(0, .ref a)] [.ref q19, .ref a]
  refine jv_putF (fs' := [.ref q0, .ref q1, .ref q2, .ref q3, .int 0, .int 0, .ref q6, .int 0, .int (-1), .int (-1), .ref q10, .int 0, .ref q12, .ref q13, .ref q14, .ref q15, .int 0, .int 0, .ref q18, .ref q19, .null, .int 0, .int 0, .int 0, .int 0, .null, .int 0]) X dX2_init_111 jl_hd hfr (T := TX2) (N := 27) (C := RX2) rfl in_X2 tyX2 tyX2_ok nmX2 19 (by decide) q2029 rfl rfl rfl rfl rfl rfl rfl (show 19 < 27 from by decide) rfl ?_
  rw [jl_put]
  refine jv_aload_n X dX2_init_114 0 rfl ?_
  refine jv_bipush (v := nI 6) X dX2_init_115 rfl ?_
  refine jv_newi (N := 6) (k1 := 13) (n1 := 2931) X dX2_init_117 q563 (by decide) (by decide) (by decide) rfl rfl (by decide) (by decide) (fun q20 hn20 hb20 => ?_)
  rw [jl_new (jl_fresh hn20).1]
  show jv_J x G 1 Q_ (jl M [(a, .inr (2, [.ref q0, .ref q1, .ref q2, .ref q3, .int 0, .int 0, .ref q6, .int 0, .int (-1), .int (-1), .ref q10, .int 0, .ref q12, .ref q13, .ref q14, .ref q15, .int 0, .int 0, .ref q18, .ref q19, .null, .int 0, .int 0, .int 0, .int 0, .null, .int 0])), (q0, .inl (G.2.2.1 0, 237, .inl (fun _ => 0))), (q1, .inl (G.2.2.1 0, 237, .inl (fun _ => 0))), (q2, .inl (G.2.2.1 0, 237, .inl (fun _ => 0))), (q3, .inl (G.2.2.1 0, 1896, .inl (fun _ => 0))), (q6, .inl (G.2.2.1 0, 60, .inl (fun _ => 0))), (q10, .inl (G.2.2.1 0, 120, .inl (fun _ => 0))), (q12, .inl (G.2.2.1 0, 6, .inl (fun _ => 0))), (q13, .inl (G.2.2.1 0, 40, .inl (fun _ => 0))), (q14, .inl (G.2.2.1 0, 40, .inl (fun _ => 0))), (q15, .inl (G.2.2.1 0, 40, .inl (fun _ => 0))), (q18, .inl (G.2.2.1 0, 6, .inl (fun _ => 0))), (q19, .inl (G.2.2.1 0, 6, .inl (fun _ => 0))), (q20, .inl (G.2.2.1 0, 6, .inl (fun _ => 0)))]) 13 2931 119 [(0, .ref a)] [.ref q20, .ref a]
  refine jv_putF (fs' := [.ref q0, .ref q1, .ref q2, .ref q3, .int 0, .int 0, .ref q6, .int 0, .int (-1), .int (-1), .ref q10, .int 0, .ref q12, .ref q13, .ref q14, .ref q15, .int 0, .int 0, .ref q18, .ref q19, .ref q20, .int 0, .int 0, .int 0, .int 0, .null, .int 0]) X dX2_init_119 jl_hd hfr (T := TX2) (N := 27) (C := RX2) rfl in_X2 tyX2 tyX2_ok nmX2 20 (by decide) q2030 rfl rfl rfl rfl rfl rfl rfl (show 20 < 27 from by decide) rfl ?_
  rw [jl_put]
  refine jv_aload_n X dX2_init_122 0 rfl ?_
  refine jv_sipush (v := nI 155) X dX2_init_123 rfl ?_
  refine jv_newi (N := 155) (k1 := 14) (n1 := 3086) X dX2_init_126 q563 (by decide) (by decide) (by decide) rfl rfl (by decide) (by decide) (fun q25 hn25 hb25 => ?_)
  rw [jl_new (jl_fresh hn25).1]
  show jv_J x G 1 Q_ (jl M [(a, .inr (2, [.ref q0, .ref q1, .ref q2, .ref q3, .int 0, .int 0, .ref q6, .int 0, .int (-1), .int (-1), .ref q10, .int 0, .ref q12, .ref q13, .ref q14, .ref q15, .int 0, .int 0, .ref q18, .ref q19, .ref q20, .int 0, .int 0, .int 0, .int 0, .null, .int 0])), (q0, .inl (G.2.2.1 0, 237, .inl (fun _ => 0))), (q1, .inl (G.2.2.1 0, 237, .inl (fun _ => 0))), (q2, .inl (G.2.2.1 0, 237, .inl (fun _ => 0))), (q3, .inl (G.2.2.1 0, 1896, .inl (fun _ => 0))), (q6, .inl (G.2.2.1 0, 60, .inl (fun _ => 0))), (q10, .inl (G.2.2.1 0, 120, .inl (fun _ => 0))), (q12, .inl (G.2.2.1 0, 6, .inl (fun _ => 0))), (q13, .inl (G.2.2.1 0, 40, .inl (fun _ => 0))), (q14, .inl (G.2.2.1 0, 40, .inl (fun _ => 0))), (q15, .inl (G.2.2.1 0, 40, .inl (fun _ => 0))), (q18, .inl (G.2.2.1 0, 6, .inl (fun _ => 0))), (q19, .inl (G.2.2.1 0, 6, .inl (fun _ => 0))), (q20, .inl (G.2.2.1 0, 6, .inl (fun _ => 0))), (q25, .inl (G.2.2.1 0, 155, .inl (fun _ => 0)))]) 14 3086 128 [(0, .ref a)] [.ref q25, .ref a]
  refine jv_putF (fs' := [.ref q0, .ref q1, .ref q2, .ref q3, .int 0, .int 0, .ref q6, .int 0, .int (-1), .int (-1), .ref q10, .int 0, .ref q12, .ref q13, .ref q14, .ref q15, .int 0, .int 0, .ref q18, .ref q19, .ref q20, .int 0, .int 0, .int 0, .int 0, .ref q25, .int 0]) X dX2_init_128 jl_hd hfr (T := TX2) (N := 27) (C := RX2) rfl in_X2 tyX2 tyX2_ok nmX2 25 (by decide) q2035 rfl rfl rfl rfl rfl rfl rfl (show 25 < 27 from by decide) rfl ?_
  rw [jl_put]
  obtain ⟨ad, had⟩ : ∃ ad : Nat → Nat, ∀ k, ad k = (match k with | 0 => q0 | 1 => q1 | 2 => q2 | 3 => q3 | 6 => q6 | 10 => q10 | 12 => q12 | 13 => q13 | 14 => q14 | 15 => q15 | 18 => q18 | 19 => q19 | 20 => q20 | 25 => q25 | _ => 0) := ⟨fun k => (match k with | 0 => q0 | 1 => q1 | 2 => q2 | 3 => q3 | 6 => q6 | 10 => q10 | 12 => q12 | 13 => q13 | 14 => q14 | 15 => q15 | 18 => q18 | 19 => q19 | 20 => q20 | 25 => q25 | _ => 0), fun k => rfl⟩
  have e0 : ad 0 = q0 := had 0
  have e1 : ad 1 = q1 := had 1
  have e2 : ad 2 = q2 := had 2
  have e3 : ad 3 = q3 := had 3
  have e6 : ad 6 = q6 := had 6
  have e10 : ad 10 = q10 := had 10
  have e12 : ad 12 = q12 := had 12
  have e13 : ad 13 = q13 := had 13
  have e14 : ad 14 = q14 := had 14
  have e15 : ad 15 = q15 := had 15
  have e18 : ad 18 = q18 := had 18
  have e19 : ad 19 = q19 := had 19
  have e20 : ad 20 = q20 := had 20
  have e25 : ad 25 = q25 := had 25
  clear had
  have f0 := (jl_fresh hn0).1
  simp only [List.mem_cons, List.not_mem_nil, or_false, forall_eq_or_imp, forall_eq] at f0
  have f1 := (jl_fresh hn1).1
  simp only [List.mem_cons, List.not_mem_nil, or_false, forall_eq_or_imp, forall_eq] at f1
  have f2 := (jl_fresh hn2).1
  simp only [List.mem_cons, List.not_mem_nil, or_false, forall_eq_or_imp, forall_eq] at f2
  have f3 := (jl_fresh hn3).1
  simp only [List.mem_cons, List.not_mem_nil, or_false, forall_eq_or_imp, forall_eq] at f3
  have f6 := (jl_fresh hn6).1
  simp only [List.mem_cons, List.not_mem_nil, or_false, forall_eq_or_imp, forall_eq] at f6
  have f10 := (jl_fresh hn10).1
  simp only [List.mem_cons, List.not_mem_nil, or_false, forall_eq_or_imp, forall_eq] at f10
  have f12 := (jl_fresh hn12).1
  simp only [List.mem_cons, List.not_mem_nil, or_false, forall_eq_or_imp, forall_eq] at f12
  have f13 := (jl_fresh hn13).1
  simp only [List.mem_cons, List.not_mem_nil, or_false, forall_eq_or_imp, forall_eq] at f13
  have f14 := (jl_fresh hn14).1
  simp only [List.mem_cons, List.not_mem_nil, or_false, forall_eq_or_imp, forall_eq] at f14
  have f15 := (jl_fresh hn15).1
  simp only [List.mem_cons, List.not_mem_nil, or_false, forall_eq_or_imp, forall_eq] at f15
  have f18 := (jl_fresh hn18).1
  simp only [List.mem_cons, List.not_mem_nil, or_false, forall_eq_or_imp, forall_eq] at f18
  have f19 := (jl_fresh hn19).1
  simp only [List.mem_cons, List.not_mem_nil, or_false, forall_eq_or_imp, forall_eq] at f19
  have f20 := (jl_fresh hn20).1
  simp only [List.mem_cons, List.not_mem_nil, or_false, forall_eq_or_imp, forall_eq] at f20
  have f25 := (jl_fresh hn25).1
  simp only [List.mem_cons, List.not_mem_nil, or_false, forall_eq_or_imp, forall_eq] at f25
  refine jv_vret X dX2_init_131 hQ (by decide) (by decide) ⟨ad, ?_, ?_⟩
  · funext b
    simp only [jl, md_M, md_ix, md_obj, List.find?, e0, e1, e2, e3, e6, e10, e12, e13, e14, e15, e18, e19, e20, e25]
    by_cases h0 : b = a
    · subst h0; simp [iF]
    · have h1 : (a == b) = false := by simpa using Ne.symm h0
      simp only [h1, if_neg h0]
      cases z0 : (q0 == b)
      case true => rfl
      cases z1 : (q1 == b)
      case true => rfl
      cases z2 : (q2 == b)
      case true => rfl
      cases z3 : (q3 == b)
      case true => rfl
      cases z6 : (q6 == b)
      case true => rfl
      cases z10 : (q10 == b)
      case true => rfl
      cases z12 : (q12 == b)
      case true => rfl
      cases z13 : (q13 == b)
      case true => rfl
      cases z14 : (q14 == b)
      case true => rfl
      cases z15 : (q15 == b)
      case true => rfl
      cases z18 : (q18 == b)
      case true => rfl
      cases z19 : (q19 == b)
      case true => rfl
      cases z20 : (q20 == b)
      case true => rfl
      cases z25 : (q25 == b)
      · rfl
      · rfl
  · refine ⟨hfr, fun k hk => ?_, fun i hi j hj e => pw_inj (ad := ad) (l := md_ix) ?_ i hi j hj e⟩
    · simp only [md_ix, List.mem_cons, List.not_mem_nil, or_false] at hk
      rcases hk with rfl | rfl | rfl | rfl | rfl | rfl | rfl | rfl | rfl | rfl | rfl | rfl | rfl | rfl
      · rw [show (M, a, ad).2.2 0 = q0 from e0]; exact ⟨hb0, fun z => f0 z.symm⟩
      · rw [show (M, a, ad).2.2 1 = q1 from e1]; exact ⟨hb1, fun z => f1.1 z.symm⟩
      · rw [show (M, a, ad).2.2 2 = q2 from e2]; exact ⟨hb2, fun z => f2.1 z.symm⟩
      · rw [show (M, a, ad).2.2 3 = q3 from e3]; exact ⟨hb3, fun z => f3.1 z.symm⟩
      · rw [show (M, a, ad).2.2 6 = q6 from e6]; exact ⟨hb6, fun z => f6.1 z.symm⟩
      · rw [show (M, a, ad).2.2 10 = q10 from e10]; exact ⟨hb10, fun z => f10.1 z.symm⟩
      · rw [show (M, a, ad).2.2 12 = q12 from e12]; exact ⟨hb12, fun z => f12.1 z.symm⟩
      · rw [show (M, a, ad).2.2 13 = q13 from e13]; exact ⟨hb13, fun z => f13.1 z.symm⟩
      · rw [show (M, a, ad).2.2 14 = q14 from e14]; exact ⟨hb14, fun z => f14.1 z.symm⟩
      · rw [show (M, a, ad).2.2 15 = q15 from e15]; exact ⟨hb15, fun z => f15.1 z.symm⟩
      · rw [show (M, a, ad).2.2 18 = q18 from e18]; exact ⟨hb18, fun z => f18.1 z.symm⟩
      · rw [show (M, a, ad).2.2 19 = q19 from e19]; exact ⟨hb19, fun z => f19.1 z.symm⟩
      · rw [show (M, a, ad).2.2 20 = q20 from e20]; exact ⟨hb20, fun z => f20.1 z.symm⟩
      · rw [show (M, a, ad).2.2 25 = q25 from e25]; exact ⟨hb25, fun z => f25.1 z.symm⟩
    · unfold md_ix
      refine List.Pairwise.cons ?_ (List.Pairwise.cons ?_ (List.Pairwise.cons ?_ (List.Pairwise.cons ?_ (List.Pairwise.cons ?_ (List.Pairwise.cons ?_ (List.Pairwise.cons ?_ (List.Pairwise.cons ?_ (List.Pairwise.cons ?_ (List.Pairwise.cons ?_ (List.Pairwise.cons ?_ (List.Pairwise.cons ?_ (List.Pairwise.cons ?_ (List.Pairwise.cons ?_ List.Pairwise.nil)))))))))))))
      · intro j hj
        simp only [List.mem_cons, List.not_mem_nil, or_false] at hj
        rcases hj with rfl | rfl | rfl | rfl | rfl | rfl | rfl | rfl | rfl | rfl | rfl | rfl | rfl
        · rw [e0, e1]; exact f1.2
        · rw [e0, e2]; exact f2.2.1
        · rw [e0, e3]; exact f3.2.1
        · rw [e0, e6]; exact f6.2.1
        · rw [e0, e10]; exact f10.2.1
        · rw [e0, e12]; exact f12.2.1
        · rw [e0, e13]; exact f13.2.1
        · rw [e0, e14]; exact f14.2.1
        · rw [e0, e15]; exact f15.2.1
        · rw [e0, e18]; exact f18.2.1
        · rw [e0, e19]; exact f19.2.1
        · rw [e0, e20]; exact f20.2.1
        · rw [e0, e25]; exact f25.2.1
      · intro j hj
        simp only [List.mem_cons, List.not_mem_nil, or_false] at hj
        rcases hj with rfl | rfl | rfl | rfl | rfl | rfl | rfl | rfl | rfl | rfl | rfl | rfl
        · rw [e1, e2]; exact f2.2.2
        · rw [e1, e3]; exact f3.2.2.1
        · rw [e1, e6]; exact f6.2.2.1
        · rw [e1, e10]; exact f10.2.2.1
        · rw [e1, e12]; exact f12.2.2.1
        · rw [e1, e13]; exact f13.2.2.1
        · rw [e1, e14]; exact f14.2.2.1
        · rw [e1, e15]; exact f15.2.2.1
        · rw [e1, e18]; exact f18.2.2.1
        · rw [e1, e19]; exact f19.2.2.1
        · rw [e1, e20]; exact f20.2.2.1
        · rw [e1, e25]; exact f25.2.2.1
      · intro j hj
        simp only [List.mem_cons, List.not_mem_nil, or_false] at hj
        rcases hj with rfl | rfl | rfl | rfl | rfl | rfl | rfl | rfl | rfl | rfl | rfl
        · rw [e2, e3]; exact f3.2.2.2
        · rw [e2, e6]; exact f6.2.2.2.1
        · rw [e2, e10]; exact f10.2.2.2.1
        · rw [e2, e12]; exact f12.2.2.2.1
        · rw [e2, e13]; exact f13.2.2.2.1
        · rw [e2, e14]; exact f14.2.2.2.1
        · rw [e2, e15]; exact f15.2.2.2.1
        · rw [e2, e18]; exact f18.2.2.2.1
        · rw [e2, e19]; exact f19.2.2.2.1
        · rw [e2, e20]; exact f20.2.2.2.1
        · rw [e2, e25]; exact f25.2.2.2.1
      · intro j hj
        simp only [List.mem_cons, List.not_mem_nil, or_false] at hj
        rcases hj with rfl | rfl | rfl | rfl | rfl | rfl | rfl | rfl | rfl | rfl
        · rw [e3, e6]; exact f6.2.2.2.2
        · rw [e3, e10]; exact f10.2.2.2.2.1
        · rw [e3, e12]; exact f12.2.2.2.2.1
        · rw [e3, e13]; exact f13.2.2.2.2.1
        · rw [e3, e14]; exact f14.2.2.2.2.1
        · rw [e3, e15]; exact f15.2.2.2.2.1
        · rw [e3, e18]; exact f18.2.2.2.2.1
        · rw [e3, e19]; exact f19.2.2.2.2.1
        · rw [e3, e20]; exact f20.2.2.2.2.1
        · rw [e3, e25]; exact f25.2.2.2.2.1
      · intro j hj
        simp only [List.mem_cons, List.not_mem_nil, or_false] at hj
        rcases hj with rfl | rfl | rfl | rfl | rfl | rfl | rfl | rfl | rfl
        · rw [e6, e10]; exact f10.2.2.2.2.2
        · rw [e6, e12]; exact f12.2.2.2.2.2.1
        · rw [e6, e13]; exact f13.2.2.2.2.2.1
        · rw [e6, e14]; exact f14.2.2.2.2.2.1
        · rw [e6, e15]; exact f15.2.2.2.2.2.1
        · rw [e6, e18]; exact f18.2.2.2.2.2.1
        · rw [e6, e19]; exact f19.2.2.2.2.2.1
        · rw [e6, e20]; exact f20.2.2.2.2.2.1
        · rw [e6, e25]; exact f25.2.2.2.2.2.1
      · intro j hj
        simp only [List.mem_cons, List.not_mem_nil, or_false] at hj
        rcases hj with rfl | rfl | rfl | rfl | rfl | rfl | rfl | rfl
        · rw [e10, e12]; exact f12.2.2.2.2.2.2
        · rw [e10, e13]; exact f13.2.2.2.2.2.2.1
        · rw [e10, e14]; exact f14.2.2.2.2.2.2.1
        · rw [e10, e15]; exact f15.2.2.2.2.2.2.1
        · rw [e10, e18]; exact f18.2.2.2.2.2.2.1
        · rw [e10, e19]; exact f19.2.2.2.2.2.2.1
        · rw [e10, e20]; exact f20.2.2.2.2.2.2.1
        · rw [e10, e25]; exact f25.2.2.2.2.2.2.1
      · intro j hj
        simp only [List.mem_cons, List.not_mem_nil, or_false] at hj
        rcases hj with rfl | rfl | rfl | rfl | rfl | rfl | rfl
        · rw [e12, e13]; exact f13.2.2.2.2.2.2.2
        · rw [e12, e14]; exact f14.2.2.2.2.2.2.2.1
        · rw [e12, e15]; exact f15.2.2.2.2.2.2.2.1
        · rw [e12, e18]; exact f18.2.2.2.2.2.2.2.1
        · rw [e12, e19]; exact f19.2.2.2.2.2.2.2.1
        · rw [e12, e20]; exact f20.2.2.2.2.2.2.2.1
        · rw [e12, e25]; exact f25.2.2.2.2.2.2.2.1
      · intro j hj
        simp only [List.mem_cons, List.not_mem_nil, or_false] at hj
        rcases hj with rfl | rfl | rfl | rfl | rfl | rfl
        · rw [e13, e14]; exact f14.2.2.2.2.2.2.2.2
        · rw [e13, e15]; exact f15.2.2.2.2.2.2.2.2.1
        · rw [e13, e18]; exact f18.2.2.2.2.2.2.2.2.1
        · rw [e13, e19]; exact f19.2.2.2.2.2.2.2.2.1
        · rw [e13, e20]; exact f20.2.2.2.2.2.2.2.2.1
        · rw [e13, e25]; exact f25.2.2.2.2.2.2.2.2.1
      · intro j hj
        simp only [List.mem_cons, List.not_mem_nil, or_false] at hj
        rcases hj with rfl | rfl | rfl | rfl | rfl
        · rw [e14, e15]; exact f15.2.2.2.2.2.2.2.2.2
        · rw [e14, e18]; exact f18.2.2.2.2.2.2.2.2.2.1
        · rw [e14, e19]; exact f19.2.2.2.2.2.2.2.2.2.1
        · rw [e14, e20]; exact f20.2.2.2.2.2.2.2.2.2.1
        · rw [e14, e25]; exact f25.2.2.2.2.2.2.2.2.2.1
      · intro j hj
        simp only [List.mem_cons, List.not_mem_nil, or_false] at hj
        rcases hj with rfl | rfl | rfl | rfl
        · rw [e15, e18]; exact f18.2.2.2.2.2.2.2.2.2.2
        · rw [e15, e19]; exact f19.2.2.2.2.2.2.2.2.2.2.1
        · rw [e15, e20]; exact f20.2.2.2.2.2.2.2.2.2.2.1
        · rw [e15, e25]; exact f25.2.2.2.2.2.2.2.2.2.2.1
      · intro j hj
        simp only [List.mem_cons, List.not_mem_nil, or_false] at hj
        rcases hj with rfl | rfl | rfl
        · rw [e18, e19]; exact f19.2.2.2.2.2.2.2.2.2.2.2
        · rw [e18, e20]; exact f20.2.2.2.2.2.2.2.2.2.2.2.1
        · rw [e18, e25]; exact f25.2.2.2.2.2.2.2.2.2.2.2.1
      · intro j hj
        simp only [List.mem_cons, List.not_mem_nil, or_false] at hj
        rcases hj with rfl | rfl
        · rw [e19, e20]; exact f20.2.2.2.2.2.2.2.2.2.2.2.2
        · rw [e19, e25]; exact f25.2.2.2.2.2.2.2.2.2.2.2.2.1
      · intro j hj
        simp only [List.mem_cons, List.not_mem_nil, or_false] at hj
        subst hj
        · rw [e20, e25]; exact f25.2.2.2.2.2.2.2.2.2.2.2.2.2
      · intro j hj
        exact absurd hj (by simp)
