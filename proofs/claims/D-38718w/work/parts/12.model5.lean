set_option maxRecDepth 100000
theorem hpX3_wayOf : plainFor yX3_wayOf = true := by decide +kernel
theorem hdX3_wayOf : nMH yX3_wayOf 2 := by decide +kernel
set_option maxHeartbeats 4000000 in
theorem c_X3_wayOf (l : Launch) (G : GG) (H0 : Heap) (n : Int) (i : Int) (r_n : -2147483648 ≤ n ∧ n < 2147483648) (r_i : -2147483648 ≤ i ∧ i < 2147483648) (hn : 0 ≤ n ∧ n ≤ 65535) : Ct0 l G yX3_wayOf cX3_wayOf 5 (Option.some Jvm.ClassFile.FieldType.int) 1 22 [.int (iI (n)), .int (iI (i))] H0 (.int (iI (wayZ n i))) := by
  refine Ct0.start hpX3_wayOf (Nat.le_of_ble_eq_true rfl) ?_
  intro p e s m below meth c ls hx hb hr S hlk hH hK hl
  have hl : lv_has ls 5 [(0, .int (iI (n))), (1, .int (iI (i)))] := hl
  have L_4 : ∀ (n_ : Nat) (a : Int) (k : Int) (h1 : 1 ≤ a ∧ a ≤ 33 ∧ 0 ≤ k ∧ k < a) (h2 : wayF n i (101 - a).toNat a k = wayZ n i)  (hm_ : ((34 : Int) - a).toNat < n_) (ls : Array Slot) (hl : lv_has ls 5 [(3, .int (iI (a))), (2, .int (iI (k))), (0, .int (iI (n))), (1, .int (iI (i)))]), W p l e { frames := 1, cells := 0, slots := 0, locals := 22 } s m ([.int (iI (n)), .int (iI (i))] : List Value).toArray below meth c H0 [] 0 0 (MQ below (k2_QcV (.int (iI (wayZ n i)))) ([.int (iI (n)), .int (iI (i))] : List Value).toArray s 0 0 (fun _ => False)) (F0 m 4 ls []) := by
    intro n_
    induction n_ with
    | zero =>
      intro a k h1 h2 hm_ ls hl
      exact absurd hm_ (Nat.not_lt_zero _)
    | succ n_ ih_4 =>
      intro a k h1 h2 hm_ ls hl
      refine xi_iconst hx hb dX3_wayOf_4 ?_
      refine lv_iload_n hx hb dX3_wayOf_5 rfl (lv_at hl 0 rfl) ?_
      refine xi_imul hx hb dX3_wayOf_6 ?_
      refine lv_iload_n hx hb dX3_wayOf_7 rfl (lv_at hl 0 rfl) ?_
      refine xi_imul hx hb dX3_wayOf_8 ?_
      refine lv_iload_n hx hb dX3_wayOf_9 rfl (lv_at hl 0 rfl) ?_
      refine xi_imul hx hb dX3_wayOf_10 ?_
      refine xi_name (fun dd e_dd => ?_)
      have ce_ : 2 * a * a * a = 2 * (a * a * a) := (by grind)
      have cb_ := cubeB (a := a) (A := 33) (by omega)
      have cp_ : 0 ≤ a * a * a := (by have := cube_le (a := 0) (b := a) (by omega); omega)
      have cq_ : a ≤ 31 ∨ 32768 ≤ a * a * a := (by rcases Int.lt_or_le a 32 with q | q; exact Or.inl (by omega); exact Or.inr (by have := cube_le q; omega))
      refine lv_iload_n hx hb dX3_wayOf_11 rfl (lv_at hl 2 rfl) ?_
      refine xi_icmp_gt (tgt := 58) hx hb dX3_wayOf_12 (by decide) (by first | omega | (have c1_ := cubesZ_r (n := n - a * a * a) (by omega); have c2_ := cubesZ_r (n := n - a * a * a - 1) (by omega); omega)) (by first | omega | (have c1_ := cubesZ_r (n := n - a * a * a) (by omega); have c2_ := cubesZ_r (n := n - a * a * a - 1) (by omega); omega)) (fun c_12 => ?_) (fun c_12 => ?_)
      · skip
        refine xi_iconst hx hb dX3_wayOf_58 ?_
        refine lv_iload_n hx hb dX3_wayOf_59 rfl (lv_at hl 1 rfl) ?_
        refine xi_isub hx hb dX3_wayOf_60 ?_
        exact x_ret0i hx hb hr hlk hH (by rw [← h2, wayF_s (n := n) (i := i) (a := a) (k := k) (z := 101 - a) (by omega), if_pos (by omega)]) dX3_wayOf_61
      · skip
        refine lv_iload_n hx hb dX3_wayOf_15 rfl (lv_at hl 2 rfl) ?_
        refine lv_iload_n hx hb dX3_wayOf_16 rfl (lv_at hl 0 rfl) ?_
        refine lv_iload_n hx hb dX3_wayOf_17 rfl (lv_at hl 0 rfl) ?_
        refine xi_imul hx hb dX3_wayOf_18 ?_
        refine lv_iload_n hx hb dX3_wayOf_19 rfl (lv_at hl 0 rfl) ?_
        refine xi_imul hx hb dX3_wayOf_20 ?_
        refine xi_isub hx hb dX3_wayOf_21 ?_
        refine lv_istore (lv' := [(4, .int (iI ((n) - (((a) * (a)) * (a))))), (3, .int (iI (a))), (2, .int (iI (k))), (0, .int (iI (n))), (1, .int (iI (i)))]) hx hb dX3_wayOf_22 hl (by decide) rfl (fun ls hl => ?_)
        refine lv_iload hx hb dX3_wayOf_24 (lv_at hl 0 rfl) ?_
        refine x_c0S (as := [.int (iI ((n) - (((a) * (a)) * (a))))]) (rest := []) S hK (c_X3_cubes l G H0 ((n) - (((a) * (a)) * (a))) (by first | omega | (have c1_ := cubesZ_r (n := n - a * a * a) (by omega); have c2_ := cubesZ_r (n := n - a * a * a - 1) (by omega); omega)) (by omega) ) q1737 q1738 q43 q1739 hdX3_cubes ⟨by decide, by decide⟩ hl.1 rfl rfl (Nat.le_of_ble_eq_true rfl) ⟨Nat.le_of_ble_eq_true rfl, Nat.le_of_ble_eq_true rfl⟩ dX3_wayOf_26 ?_
        refine lv_iload hx hb dX3_wayOf_29 (lv_at hl 0 rfl) ?_
        refine xi_iconst hx hb dX3_wayOf_31 ?_
        refine xi_isub hx hb dX3_wayOf_32 ?_
        refine x_c0S (as := [.int (iI (((n) - (((a) * (a)) * (a))) - (1)))]) (rest := [.int (iI (cubesZ ((n) - (((a) * (a)) * (a)))))]) S hK (c_X3_cubes l G H0 (((n) - (((a) * (a)) * (a))) - (1)) (by first | omega | (have c1_ := cubesZ_r (n := n - a * a * a) (by omega); have c2_ := cubesZ_r (n := n - a * a * a - 1) (by omega); omega)) (by omega) ) q1737 q1738 q43 q1739 hdX3_cubes ⟨by decide, by decide⟩ hl.1 rfl rfl (Nat.le_of_ble_eq_true rfl) ⟨Nat.le_of_ble_eq_true rfl, Nat.le_of_ble_eq_true rfl⟩ dX3_wayOf_33 ?_
        refine xi_icmp_ne (tgt := 42) hx hb dX3_wayOf_36 (by decide) (by first | omega | (have c1_ := cubesZ_r (n := n - a * a * a) (by omega); have c2_ := cubesZ_r (n := n - a * a * a - 1) (by omega); omega)) (by first | omega | (have c1_ := cubesZ_r (n := n - a * a * a) (by omega); have c2_ := cubesZ_r (n := n - a * a * a - 1) (by omega); omega)) (fun c_36 => ?_) (fun c_36 => ?_)
        · skip
          refine lv_iload_n hx hb dX3_wayOf_42 rfl (lv_at hl 2 rfl) ?_
          refine lv_iload_n hx hb dX3_wayOf_43 rfl (lv_at hl 4 rfl) ?_
          refine xi_icmp_ne (tgt := 49) hx hb dX3_wayOf_44 (by decide) (by first | omega | (have c1_ := cubesZ_r (n := n - a * a * a) (by omega); have c2_ := cubesZ_r (n := n - a * a * a - 1) (by omega); omega)) (by first | omega | (have c1_ := cubesZ_r (n := n - a * a * a) (by omega); have c2_ := cubesZ_r (n := n - a * a * a - 1) (by omega); omega)) (fun c_44 => ?_) (fun c_44 => ?_)
          · skip
            refine xi_iinc (lv' := [(2, .int (iI (k + 1))), (4, .int (iI ((n) - (((a) * (a)) * (a))))), (3, .int (iI (a))), (0, .int (iI (n))), (1, .int (iI (i)))]) hx hb dX3_wayOf_49 hl (k := 2) rfl (by decide) rfl (fun ls hl => ?_)
            refine xi_iinc (lv' := [(3, .int (iI (a + 1))), (2, .int (iI (k + 1))), (4, .int (iI ((n) - (((a) * (a)) * (a))))), (0, .int (iI (n))), (1, .int (iI (i)))]) hx hb dX3_wayOf_52 hl (k := 2) rfl (by decide) rfl (fun ls hl => ?_)
            refine lv_goto (tgt := 4) hx hb dX3_wayOf_55 (by decide) ?_
            exact ih_4 (a + 1) (k + 1) (by omega) (by (first | rfl | (rw [← h2, wayF_s (n := n) (i := i) (a := a) (k := k) (z := 101 - a) (by omega), if_neg (by omega), show 101 - (a + 1) = 101 - a - 1 by omega]; first | rw [if_pos (show isCub (n - a * a * a) from c_36), if_neg c_44] | rw [if_neg (show ¬ isCub (n - a * a * a) from fun z => z c_36)]))) (by omega) ls (lv_sub hl [0, 1, 3, 4] rfl)
          · skip
            refine lv_iload_n hx hb dX3_wayOf_47 rfl (lv_at hl 1 rfl) ?_
            exact x_ret0i hx hb hr hlk hH (by rw [← h2, wayF_s (n := n) (i := i) (a := a) (k := k) (z := 101 - a) (by omega), if_neg (by omega), if_pos (show isCub (n - a * a * a) from c_36), if_pos c_44]) dX3_wayOf_48
        · skip
          refine lv_goto (tgt := 52) hx hb dX3_wayOf_39 (by decide) ?_
          refine xi_iinc (lv' := [(3, .int (iI (a + 1))), (4, .int (iI ((n) - (((a) * (a)) * (a))))), (2, .int (iI (k))), (0, .int (iI (n))), (1, .int (iI (i)))]) hx hb dX3_wayOf_52 hl (k := 1) rfl (by decide) rfl (fun ls hl => ?_)
          refine lv_goto (tgt := 4) hx hb dX3_wayOf_55 (by decide) ?_
          exact ih_4 (a + 1) (k) (by omega) (by (first | rfl | (rw [← h2, wayF_s (n := n) (i := i) (a := a) (k := k) (z := 101 - a) (by omega), if_neg (by omega), show 101 - (a + 1) = 101 - a - 1 by omega]; first | rw [if_pos (show isCub (n - a * a * a) from c_36), if_neg c_44] | rw [if_neg (show ¬ isCub (n - a * a * a) from fun z => z c_36)]))) (by omega) ls (lv_sub hl [0, 2, 3, 4] rfl)
  refine xi_iconst hx hb dX3_wayOf_0 ?_
  refine lv_istore_n (lv' := [(2, .int (iI (0))), (0, .int (iI (n))), (1, .int (iI (i)))]) hx hb dX3_wayOf_1 rfl hl (by decide) rfl (fun ls hl => ?_)
  refine xi_iconst hx hb dX3_wayOf_2 ?_
  refine lv_istore_n (lv' := [(3, .int (iI (1))), (2, .int (iI (0))), (0, .int (iI (n))), (1, .int (iI (i)))]) hx hb dX3_wayOf_3 rfl hl (by decide) rfl (fun ls hl => ?_)
  exact L_4 ((((34 : Int) - (1)).toNat) + 1) (1) (0) (by omega) (by (first | rfl | (rw [← h2, wayF_s (n := n) (i := i) (a := a) (k := k) (z := 101 - a) (by omega), if_neg (by omega), show 101 - (a + 1) = 101 - a - 1 by omega]; first | rw [if_pos (show isCub (n - a * a * a) from c_36), if_neg c_44] | rw [if_neg (show ¬ isCub (n - a * a * a) from fun z => z c_36)]))) (by omega) ls (lv_sub hl [0, 1, 2, 3] rfl)

theorem hpX3_waysOf : plainFor yX3_waysOf = true := by decide +kernel
theorem hdX3_waysOf : nMH yX3_waysOf 1 := by decide +kernel
set_option maxHeartbeats 4000000 in
theorem c_X3_waysOf (l : Launch) (G : GG) (H0 : Heap) (n : Int) (r_n : -2147483648 ≤ n ∧ n < 2147483648) (hn : 0 ≤ n ∧ n ≤ 65535) : Ct0 l G yX3_waysOf cX3_waysOf 1 (Option.some Jvm.ClassFile.FieldType.int) 2 46 [.int (iI (n))] H0 (.int (iI (wtotZ n))) := by
  refine Ct0.start hpX3_waysOf (Nat.le_of_ble_eq_true rfl) ?_
  intro p e s m below meth c ls hx hb hr S hlk hH hK hl
  have hl : lv_has ls 1 [(0, .int (iI (n)))] := hl
  refine xi_iconst hx hb dX3_waysOf_0 ?_
  refine lv_iload_n hx hb dX3_waysOf_1 rfl (lv_at hl 0 rfl) ?_
  refine xi_sipush hx hb (by decide) dX3_waysOf_2 ?_
  refine x_c0S (as := [.int (iI (n)), .int (iI (1000))]) (rest := [.int (iI (-1))]) S hK (c_X3_wayOf l G H0 (n) (1000) (by omega) (by omega) (by omega) ) q1762 q1763 q43 q1764 hdX3_wayOf ⟨by decide, by decide⟩ hl.1 rfl rfl (Nat.le_of_ble_eq_true rfl) ⟨Nat.le_of_ble_eq_true rfl, Nat.le_of_ble_eq_true rfl⟩ dX3_waysOf_5 ?_
  refine xi_isub hx hb dX3_waysOf_8 ?_
  exact x_ret0i hx hb hr hlk hH (by have := wayZ_tot n; omega) dX3_waysOf_9

theorem hpX3_nextStep : plainFor yX3_nextStep = true := by decide +kernel
theorem hdX3_nextStep : nMH yX3_nextStep 1 := by decide +kernel
set_option maxHeartbeats 4000000 in
theorem c_X3_nextStep (l : Launch) (G : GG) (H0 : Heap) (mc : Nat) (th : Int) (ac : Int) (no : Int) (kn : Int) (cc : Nat → Row) (h : Nat) (n : Int) (r_n : -2147483648 ≤ n ∧ n < 2147483648) (hac : 0 ≤ ac ∧ ac ≤ 1000) (hno : 0 ≤ no ∧ no ≤ 1000) (hkn : 0 ≤ kn ∧ kn ≤ 1000) (hok : ∀ k : Nat, k < 8 → okR (cc k)) (hw : MW G (h) (mc) (th) (ac) (no) (kn) (cc) H0) : Ct1 l G yX3_nextStep cX3_nextStep 3 (Option.some Jvm.ClassFile.FieldType.int) 2 0 0 44 [.ref (h), .int (iI (n))] H0 (fun q => q = h ∨ q = mc) (fun (rv : Option Value) (H1 : Heap) => ∃ z : Res, op_nextStep ac no cc (n) = z ∧ rv = some (.int (iI z.2.1)) ∧ MW G h mc z.1 z.2.2.1 z.2.2.2.1 kn z.2.2.2.2 H1) := by
  refine Ct1.start hpX3_nextStep (Nat.le_of_ble_eq_true rfl) ?_
  intro p e s m below meth c ls hx hb hr S hlk hname hH hK hS hl
  have hl : lv_has ls 3 [(0, .ref (h)), (1, .int (iI (n)))] := hl
  have hbc : ∀ k : Nat, k < 8 → bRow (cc k) := fun k h => okR_b (hok k h)
  have kw : Keep (fun q => q = h ∨ q = mc) H0 H0 := Keep.rf
  have hz0 := hK.2.2.1
  refine lv_aload_n hx hb dX3_nextStep_0 rfl (lv_at hl 0 rfl) ?_
  refine lv_iload_n hx hb dX3_nextStep_1 rfl (lv_at hl 1 rfl) ?_
  refine xi_i2l hx hb (by omega) dX3_nextStep_2 ?_
  refine xi_lconst (z := 0) hx hb (by decide +kernel) dX3_nextStep_3 ?_
  refine xi_ldc2 (z := 8000) hx hb S.2.2.2.1 S.2.2.2.2 q1787 (by decide +kernel) dX3_nextStep_4 ?_
  refine x_c0S (as := [.long (jI (n)), .long (jI (0)), .long (jI (8000))]) (rest := [.ref (h)]) S hK (c_X3_isIn l G H0 (n) (0) (8000) (by omega) (by omega) (by omega) ) q1177 q1178 q43 q1179 hdX3_isIn ⟨by decide, by decide⟩ hl.1 rfl rfl (Nat.le_of_ble_eq_true rfl) ⟨Nat.le_of_ble_eq_true rfl, Nat.le_of_ble_eq_true rfl⟩ dX3_nextStep_7 ?_
  refine xi_ifb_ne (tgt := 17) hx hb dX3_nextStep_10 (by decide) (fun c_10 => ?_) (fun c_10 => ?_)
  · skip
    refine xi_iconst hx hb dX3_nextStep_17 ?_
    refine xi_iconst hx hb dX3_nextStep_18 ?_
    have hw_o_1 := hw
    obtain ⟨rb_o_1, hm_o_1, hq_o_1, hr_o_1, hza_o_1, hzc_o_1⟩ := hw_o_1
    refine x_c1V (as := [.int (iI (0)), .int (iI (1))]) (rest := []) S hK hm_o_1 rfl rfl (c_X3_start l G H0 (mc) (th) (ac) (no) (kn) (cc) (h) (False) (1) (by omega) (by first | assumption | omega) (by first | assumption | omega) (by first | assumption | omega) (by assumption) (by omega) hw) q1180 q1182 qs9 q43 q1183 hdX3_start ⟨by decide, by decide⟩ hl.1 rfl rfl (Nat.le_of_ble_eq_true rfl) ⟨Nat.le_of_ble_eq_true rfl, Nat.le_of_ble_eq_true rfl⟩ hS (fun q e => Or.inl (Or.inl e)) (fun q z => Or.inr z) dX3_nextStep_19 (fun rv_c_2 H_c_2 locs hp_c_2 k_c_2 hS => ?_)
    have kw := kw.then k_c_2 (fun q e _ => Or.inl e)
    have hK := hK.keep k_c_2 (fun q e => by have e : q = h := e; omega)
    obtain ⟨th_r_3, hth_r_3, rfl, hw_r_3⟩ := hp_c_2
    have hth_r_3 := hth_r_3.elim (fun z => z.1.elim) (fun z => z.2)
    refine W.eq (g2 := F0 m 22 ls [.int (iI (b2i (0 < (th_r_3))))]) rfl ?_
    refine xi_ifb_eq (tgt := 27) hx hb dX3_nextStep_22 (by decide) (fun c_22 => ?_) (fun c_22 => ?_)
    · skip
      obtain rfl : th_r_3 = 0 := by omega
      refine lv_iload_n hx hb dX3_nextStep_27 rfl (lv_at hl 1 rfl) ?_
      refine x_c0S (as := [.int (iI (n))]) (rest := []) S hK (c_X3_cubes l G H_c_2 (n) (by omega) (by omega) ) q1737 q1738 q43 q1739 hdX3_cubes ⟨by decide, by decide⟩ hl.1 rfl rfl (Nat.le_of_ble_eq_true rfl) ⟨Nat.le_of_ble_eq_true rfl, Nat.le_of_ble_eq_true rfl⟩ dX3_nextStep_28 ?_
      refine xi_iconst hx hb dX3_nextStep_31 ?_
      refine xi_iadd hx hb dX3_nextStep_32 ?_
      refine lv_istore_n (lv' := [(2, .int (iI ((cubesZ (n)) + (1)))), (0, .ref (h)), (1, .int (iI (n)))]) hx hb dX3_nextStep_33 rfl hl (by decide) rfl (fun ls hl => ?_)
      refine lv_iload_n hx hb dX3_nextStep_34 rfl (lv_at hl 0 rfl) ?_
      refine lv_iload_n hx hb dX3_nextStep_35 rfl (lv_at hl 0 rfl) ?_
      refine xi_imul hx hb dX3_nextStep_36 ?_
      refine lv_iload_n hx hb dX3_nextStep_37 rfl (lv_at hl 0 rfl) ?_
      refine xi_imul hx hb dX3_nextStep_38 ?_
      refine x_ret1i hx hb hr hlk hH hS (by omega) (by omega) ?_ dX3_nextStep_39
      first | (exfalso; omega) | exact ⟨(_, _, _, _, _), (by unfold op_nextStep; (repeat (first | with_reducible refine ifp (by omega) ?_ | with_reducible refine ifn (by omega) ?_)); first | rfl | exact comeF_s (by assumption) | exact comeF_n (by assumption) | exact comeF_s (if_pos (by omega)) | exact comeF_n (if_neg (by omega))), rfl, hw_r_3⟩
    · skip
      obtain rfl : th_r_3 = 1 := by omega
      refine xi_iconst hx hb dX3_nextStep_25 ?_
      refine x_ret1i hx hb hr hlk hH hS (by omega) (by omega) ?_ dX3_nextStep_26
      first | (exfalso; omega) | exact ⟨(_, _, _, _, _), (by unfold op_nextStep; (repeat (first | with_reducible refine ifp (by omega) ?_ | with_reducible refine ifn (by omega) ?_)); first | rfl | exact comeF_s (by assumption) | exact comeF_n (by assumption) | exact comeF_s (if_pos (by omega)) | exact comeF_n (if_neg (by omega))), rfl, hw_r_3⟩
  · skip
    refine xi_iconst hx hb dX3_nextStep_13 ?_
    refine lv_goto (tgt := 18) hx hb dX3_nextStep_14 (by decide) ?_
    refine xi_iconst hx hb dX3_nextStep_18 ?_
    have hw_o_4 := hw
    obtain ⟨rb_o_4, hm_o_4, hq_o_4, hr_o_4, hza_o_4, hzc_o_4⟩ := hw_o_4
    refine x_c1V (as := [.int (iI (1)), .int (iI (1))]) (rest := []) S hK hm_o_4 rfl rfl (c_X3_start l G H0 (mc) (th) (ac) (no) (kn) (cc) (h) (True) (1) (by omega) (by first | assumption | omega) (by first | assumption | omega) (by first | assumption | omega) (by assumption) (by omega) hw) q1180 q1182 qs9 q43 q1183 hdX3_start ⟨by decide, by decide⟩ hl.1 rfl rfl (Nat.le_of_ble_eq_true rfl) ⟨Nat.le_of_ble_eq_true rfl, Nat.le_of_ble_eq_true rfl⟩ hS (fun q e => Or.inl (Or.inl e)) (fun q z => Or.inr z) dX3_nextStep_19 (fun rv_c_5 H_c_5 locs hp_c_5 k_c_5 hS => ?_)
    have kw := kw.then k_c_5 (fun q e _ => Or.inl e)
    have hK := hK.keep k_c_5 (fun q e => by have e : q = h := e; omega)
    obtain ⟨th_r_6, hth_r_6, rfl, hw_r_6⟩ := hp_c_5
    have hth_r_6 := hth_r_6.elim (fun z => z.2) (fun z => absurd trivial z.1)
    refine W.eq (g2 := F0 m 22 ls [.int (iI (b2i (0 < (th_r_6))))]) rfl ?_
    refine xi_ifb_eq (tgt := 27) hx hb dX3_nextStep_22 (by decide) (fun c_22 => ?_) (fun c_22 => ?_)
    · skip
      obtain rfl : th_r_6 = 0 := by omega
      refine lv_iload_n hx hb dX3_nextStep_27 rfl (lv_at hl 1 rfl) ?_
      refine x_c0S (as := [.int (iI (n))]) (rest := []) S hK (c_X3_cubes l G H_c_5 (n) (by omega) (by omega) ) q1737 q1738 q43 q1739 hdX3_cubes ⟨by decide, by decide⟩ hl.1 rfl rfl (Nat.le_of_ble_eq_true rfl) ⟨Nat.le_of_ble_eq_true rfl, Nat.le_of_ble_eq_true rfl⟩ dX3_nextStep_28 ?_
      refine xi_iconst hx hb dX3_nextStep_31 ?_
      refine xi_iadd hx hb dX3_nextStep_32 ?_
      refine lv_istore_n (lv' := [(2, .int (iI ((cubesZ (n)) + (1)))), (0, .ref (h)), (1, .int (iI (n)))]) hx hb dX3_nextStep_33 rfl hl (by decide) rfl (fun ls hl => ?_)
      refine lv_iload_n hx hb dX3_nextStep_34 rfl (lv_at hl 0 rfl) ?_
      refine lv_iload_n hx hb dX3_nextStep_35 rfl (lv_at hl 0 rfl) ?_
      refine xi_imul hx hb dX3_nextStep_36 ?_
      refine lv_iload_n hx hb dX3_nextStep_37 rfl (lv_at hl 0 rfl) ?_
      refine xi_imul hx hb dX3_nextStep_38 ?_
      refine x_ret1i hx hb hr hlk hH hS (by omega) (by omega) ?_ dX3_nextStep_39
      first | (exfalso; omega) | exact ⟨(_, _, _, _, _), (by unfold op_nextStep; (repeat (first | with_reducible refine ifp (by omega) ?_ | with_reducible refine ifn (by omega) ?_)); first | rfl | exact comeF_s (by assumption) | exact comeF_n (by assumption) | exact comeF_s (if_pos (by omega)) | exact comeF_n (if_neg (by omega))), rfl, hw_r_6⟩
    · skip
      obtain rfl : th_r_6 = 1 := by omega
      refine xi_iconst hx hb dX3_nextStep_25 ?_
      refine x_ret1i hx hb hr hlk hH hS (by omega) (by omega) ?_ dX3_nextStep_26
      first | (exfalso; omega) | exact ⟨(_, _, _, _, _), (by unfold op_nextStep; (repeat (first | with_reducible refine ifp (by omega) ?_ | with_reducible refine ifn (by omega) ?_)); first | rfl | exact comeF_s (by assumption) | exact comeF_n (by assumption) | exact comeF_s (if_pos (by omega)) | exact comeF_n (if_neg (by omega))), rfl, hw_r_6⟩

theorem hpX3_ways : plainFor yX3_ways = true := by decide +kernel
theorem hdX3_ways : nMH yX3_ways 1 := by decide +kernel
set_option maxHeartbeats 4000000 in
theorem c_X3_ways (l : Launch) (G : GG) (H0 : Heap) (mc : Nat) (th : Int) (ac : Int) (no : Int) (kn : Int) (cc : Nat → Row) (h : Nat) (n : Int) (r_n : -2147483648 ≤ n ∧ n < 2147483648) (hac : 0 ≤ ac ∧ ac ≤ 1000) (hno : 0 ≤ no ∧ no ≤ 1000) (hkn : 0 ≤ kn ∧ kn ≤ 1000) (hok : ∀ k : Nat, k < 8 → okR (cc k)) (hw : MW G (h) (mc) (th) (ac) (no) (kn) (cc) H0) : Ct1 l G yX3_ways cX3_ways 2 (Option.some Jvm.ClassFile.FieldType.int) 3 0 0 66 [.ref (h), .int (iI (n))] H0 (fun q => q = h ∨ q = mc) (fun (rv : Option Value) (H1 : Heap) => ∃ z : Res, op_ways ac no cc (n) = z ∧ rv = some (.int (iI z.2.1)) ∧ MW G h mc z.1 z.2.2.1 z.2.2.2.1 kn z.2.2.2.2 H1) := by
  refine Ct1.start hpX3_ways (Nat.le_of_ble_eq_true rfl) ?_
  intro p e s m below meth c ls hx hb hr S hlk hname hH hK hS hl
  have hl : lv_has ls 2 [(0, .ref (h)), (1, .int (iI (n)))] := hl
  have hbc : ∀ k : Nat, k < 8 → bRow (cc k) := fun k h => okR_b (hok k h)
  have kw : Keep (fun q => q = h ∨ q = mc) H0 H0 := Keep.rf
  have hz0 := hK.2.2.1
  refine lv_aload_n hx hb dX3_ways_0 rfl (lv_at hl 0 rfl) ?_
  refine lv_iload_n hx hb dX3_ways_1 rfl (lv_at hl 1 rfl) ?_
  refine xi_i2l hx hb (by omega) dX3_ways_2 ?_
  refine xi_lconst (z := 0) hx hb (by decide +kernel) dX3_ways_3 ?_
  refine xi_ldc2 (z := 65535) hx hb S.2.2.2.1 S.2.2.2.2 q1189 (by decide +kernel) dX3_ways_4 ?_
  refine x_c0S (as := [.long (jI (n)), .long (jI (0)), .long (jI (65535))]) (rest := [.ref (h)]) S hK (c_X3_isIn l G H0 (n) (0) (65535) (by omega) (by omega) (by omega) ) q1177 q1178 q43 q1179 hdX3_isIn ⟨by decide, by decide⟩ hl.1 rfl rfl (Nat.le_of_ble_eq_true rfl) ⟨Nat.le_of_ble_eq_true rfl, Nat.le_of_ble_eq_true rfl⟩ dX3_ways_7 ?_
  refine xi_ifb_ne (tgt := 17) hx hb dX3_ways_10 (by decide) (fun c_10 => ?_) (fun c_10 => ?_)
  · skip
    refine xi_iconst hx hb dX3_ways_17 ?_
    refine xi_iconst hx hb dX3_ways_18 ?_
    have hw_o_1 := hw
    obtain ⟨rb_o_1, hm_o_1, hq_o_1, hr_o_1, hza_o_1, hzc_o_1⟩ := hw_o_1
    refine x_c1V (as := [.int (iI (0)), .int (iI (1))]) (rest := []) S hK hm_o_1 rfl rfl (c_X3_start l G H0 (mc) (th) (ac) (no) (kn) (cc) (h) (False) (1) (by omega) (by first | assumption | omega) (by first | assumption | omega) (by first | assumption | omega) (by assumption) (by omega) hw) q1180 q1182 qs9 q43 q1183 hdX3_start ⟨by decide, by decide⟩ hl.1 rfl rfl (Nat.le_of_ble_eq_true rfl) ⟨Nat.le_of_ble_eq_true rfl, Nat.le_of_ble_eq_true rfl⟩ hS (fun q e => Or.inl (Or.inl e)) (fun q z => Or.inr z) dX3_ways_19 (fun rv_c_2 H_c_2 locs hp_c_2 k_c_2 hS => ?_)
    have kw := kw.then k_c_2 (fun q e _ => Or.inl e)
    have hK := hK.keep k_c_2 (fun q e => by have e : q = h := e; omega)
    obtain ⟨th_r_3, hth_r_3, rfl, hw_r_3⟩ := hp_c_2
    have hth_r_3 := hth_r_3.elim (fun z => z.1.elim) (fun z => z.2)
    refine W.eq (g2 := F0 m 22 ls [.int (iI (b2i (0 < (th_r_3))))]) rfl ?_
    refine xi_ifb_eq (tgt := 29) hx hb dX3_ways_22 (by decide) (fun c_22 => ?_) (fun c_22 => ?_)
    · skip
      obtain rfl : th_r_3 = 0 := by omega
      refine lv_iload_n hx hb dX3_ways_29 rfl (lv_at hl 1 rfl) ?_
      refine x_c0S (as := [.int (iI (n))]) (rest := []) S hK (c_X3_waysOf l G H_c_2 (n) (by omega) (by omega) ) q1759 q1760 q43 q1761 hdX3_waysOf ⟨by decide, by decide⟩ hl.1 rfl rfl (Nat.le_of_ble_eq_true rfl) ⟨Nat.le_of_ble_eq_true rfl, Nat.le_of_ble_eq_true rfl⟩ dX3_ways_30 ?_
      refine x_ret1i hx hb hr hlk hH hS (by omega) (by omega) ?_ dX3_ways_33
      first | (exfalso; omega) | exact ⟨(_, _, _, _, _), (by unfold op_ways; (repeat (first | with_reducible refine ifp (by omega) ?_ | with_reducible refine ifn (by omega) ?_)); first | rfl | exact comeF_s (by assumption) | exact comeF_n (by assumption) | exact comeF_s (if_pos (by omega)) | exact comeF_n (if_neg (by omega))), rfl, hw_r_3⟩
    · skip
      obtain rfl : th_r_3 = 1 := by omega
      refine xi_iconst hx hb dX3_ways_25 ?_
      refine lv_goto (tgt := 33) hx hb dX3_ways_26 (by decide) ?_
      refine x_ret1i hx hb hr hlk hH hS (by omega) (by omega) ?_ dX3_ways_33
      first | (exfalso; omega) | exact ⟨(_, _, _, _, _), (by unfold op_ways; (repeat (first | with_reducible refine ifp (by omega) ?_ | with_reducible refine ifn (by omega) ?_)); first | rfl | exact comeF_s (by assumption) | exact comeF_n (by assumption) | exact comeF_s (if_pos (by omega)) | exact comeF_n (if_neg (by omega))), rfl, hw_r_3⟩
  · skip
    refine xi_iconst hx hb dX3_ways_13 ?_
    refine lv_goto (tgt := 18) hx hb dX3_ways_14 (by decide) ?_
    refine xi_iconst hx hb dX3_ways_18 ?_
    have hw_o_4 := hw
    obtain ⟨rb_o_4, hm_o_4, hq_o_4, hr_o_4, hza_o_4, hzc_o_4⟩ := hw_o_4
    refine x_c1V (as := [.int (iI (1)), .int (iI (1))]) (rest := []) S hK hm_o_4 rfl rfl (c_X3_start l G H0 (mc) (th) (ac) (no) (kn) (cc) (h) (True) (1) (by omega) (by first | assumption | omega) (by first | assumption | omega) (by first | assumption | omega) (by assumption) (by omega) hw) q1180 q1182 qs9 q43 q1183 hdX3_start ⟨by decide, by decide⟩ hl.1 rfl rfl (Nat.le_of_ble_eq_true rfl) ⟨Nat.le_of_ble_eq_true rfl, Nat.le_of_ble_eq_true rfl⟩ hS (fun q e => Or.inl (Or.inl e)) (fun q z => Or.inr z) dX3_ways_19 (fun rv_c_5 H_c_5 locs hp_c_5 k_c_5 hS => ?_)
    have kw := kw.then k_c_5 (fun q e _ => Or.inl e)
    have hK := hK.keep k_c_5 (fun q e => by have e : q = h := e; omega)
    obtain ⟨th_r_6, hth_r_6, rfl, hw_r_6⟩ := hp_c_5
    have hth_r_6 := hth_r_6.elim (fun z => z.2) (fun z => absurd trivial z.1)
    refine W.eq (g2 := F0 m 22 ls [.int (iI (b2i (0 < (th_r_6))))]) rfl ?_
    refine xi_ifb_eq (tgt := 29) hx hb dX3_ways_22 (by decide) (fun c_22 => ?_) (fun c_22 => ?_)
    · skip
      obtain rfl : th_r_6 = 0 := by omega
      refine lv_iload_n hx hb dX3_ways_29 rfl (lv_at hl 1 rfl) ?_
      refine x_c0S (as := [.int (iI (n))]) (rest := []) S hK (c_X3_waysOf l G H_c_5 (n) (by omega) (by omega) ) q1759 q1760 q43 q1761 hdX3_waysOf ⟨by decide, by decide⟩ hl.1 rfl rfl (Nat.le_of_ble_eq_true rfl) ⟨Nat.le_of_ble_eq_true rfl, Nat.le_of_ble_eq_true rfl⟩ dX3_ways_30 ?_
      refine x_ret1i hx hb hr hlk hH hS (by omega) (by omega) ?_ dX3_ways_33
      first | (exfalso; omega) | exact ⟨(_, _, _, _, _), (by unfold op_ways; (repeat (first | with_reducible refine ifp (by omega) ?_ | with_reducible refine ifn (by omega) ?_)); first | rfl | exact comeF_s (by assumption) | exact comeF_n (by assumption) | exact comeF_s (if_pos (by omega)) | exact comeF_n (if_neg (by omega))), rfl, hw_r_6⟩
    · skip
      obtain rfl : th_r_6 = 1 := by omega
      refine xi_iconst hx hb dX3_ways_25 ?_
      refine lv_goto (tgt := 33) hx hb dX3_ways_26 (by decide) ?_
      refine x_ret1i hx hb hr hlk hH hS (by omega) (by omega) ?_ dX3_ways_33
      first | (exfalso; omega) | exact ⟨(_, _, _, _, _), (by unfold op_ways; (repeat (first | with_reducible refine ifp (by omega) ?_ | with_reducible refine ifn (by omega) ?_)); first | rfl | exact comeF_s (by assumption) | exact comeF_n (by assumption) | exact comeF_s (if_pos (by omega)) | exact comeF_n (if_neg (by omega))), rfl, hw_r_6⟩

theorem hpX3_way : plainFor yX3_way = true := by decide +kernel
theorem hdX3_way : nMH yX3_way 2 := by decide +kernel
set_option maxHeartbeats 4000000 in
theorem c_X3_way (l : Launch) (G : GG) (H0 : Heap) (mc : Nat) (th : Int) (ac : Int) (no : Int) (kn : Int) (cc : Nat → Row) (h : Nat) (n : Int) (i : Int) (r_n : -2147483648 ≤ n ∧ n < 2147483648) (r_i : -2147483648 ≤ i ∧ i < 2147483648) (hac : 0 ≤ ac ∧ ac ≤ 1000) (hno : 0 ≤ no ∧ no ≤ 1000) (hkn : 0 ≤ kn ∧ kn ≤ 1000) (hok : ∀ k : Nat, k < 8 → okR (cc k)) (hw : MW G (h) (mc) (th) (ac) (no) (kn) (cc) H0) : Ct1 l G yX3_way cX3_way 3 (Option.some Jvm.ClassFile.FieldType.int) 2 0 0 46 [.ref (h), .int (iI (n)), .int (iI (i))] H0 (fun q => q = h ∨ q = mc) (fun (rv : Option Value) (H1 : Heap) => ∃ z : Res, op_way ac no cc (n) (i) = z ∧ rv = some (.int (iI z.2.1)) ∧ MW G h mc z.1 z.2.2.1 z.2.2.2.1 kn z.2.2.2.2 H1) := by
  refine Ct1.start hpX3_way (Nat.le_of_ble_eq_true rfl) ?_
  intro p e s m below meth c ls hx hb hr S hlk hname hH hK hS hl
  have hl : lv_has ls 3 [(0, .ref (h)), (1, .int (iI (n))), (2, .int (iI (i)))] := hl
  have hbc : ∀ k : Nat, k < 8 → bRow (cc k) := fun k h => okR_b (hok k h)
  have wr_ := wayZ_r n i
  have kw : Keep (fun q => q = h ∨ q = mc) H0 H0 := Keep.rf
  have hz0 := hK.2.2.1
  refine lv_aload_n hx hb dX3_way_0 rfl (lv_at hl 0 rfl) ?_
  refine lv_iload_n hx hb dX3_way_1 rfl (lv_at hl 1 rfl) ?_
  refine xi_i2l hx hb (by omega) dX3_way_2 ?_
  refine xi_lconst (z := 0) hx hb (by decide +kernel) dX3_way_3 ?_
  refine xi_ldc2 (z := 65535) hx hb S.2.2.2.1 S.2.2.2.2 q1189 (by decide +kernel) dX3_way_4 ?_
  refine x_c0S (as := [.long (jI (n)), .long (jI (0)), .long (jI (65535))]) (rest := [.ref (h)]) S hK (c_X3_isIn l G H0 (n) (0) (65535) (by omega) (by omega) (by omega) ) q1177 q1178 q43 q1179 hdX3_isIn ⟨by decide, by decide⟩ hl.1 rfl rfl (Nat.le_of_ble_eq_true rfl) ⟨Nat.le_of_ble_eq_true rfl, Nat.le_of_ble_eq_true rfl⟩ dX3_way_7 ?_
  refine xi_ifb_eq (tgt := 25) hx hb dX3_way_10 (by decide) (fun c_10 => ?_) (fun c_10 => ?_)
  · skip
    refine xi_iconst hx hb dX3_way_25 ?_
    refine lv_goto (tgt := 30) hx hb dX3_way_26 (by decide) ?_
    refine xi_iconst hx hb dX3_way_30 ?_
    have hw_o_1 := hw
    obtain ⟨rb_o_1, hm_o_1, hq_o_1, hr_o_1, hza_o_1, hzc_o_1⟩ := hw_o_1
    refine x_c1V (as := [.int (iI (1)), .int (iI (1))]) (rest := []) S hK hm_o_1 rfl rfl (c_X3_start l G H0 (mc) (th) (ac) (no) (kn) (cc) (h) (True) (1) (by omega) (by first | assumption | omega) (by first | assumption | omega) (by first | assumption | omega) (by assumption) (by omega) hw) q1180 q1182 qs9 q43 q1183 hdX3_start ⟨by decide, by decide⟩ hl.1 rfl rfl (Nat.le_of_ble_eq_true rfl) ⟨Nat.le_of_ble_eq_true rfl, Nat.le_of_ble_eq_true rfl⟩ hS (fun q e => Or.inl (Or.inl e)) (fun q z => Or.inr z) dX3_way_31 (fun rv_c_2 H_c_2 locs hp_c_2 k_c_2 hS => ?_)
    have kw := kw.then k_c_2 (fun q e _ => Or.inl e)
    have hK := hK.keep k_c_2 (fun q e => by have e : q = h := e; omega)
    obtain ⟨th_r_3, hth_r_3, rfl, hw_r_3⟩ := hp_c_2
    have hth_r_3 := hth_r_3.elim (fun z => z.2) (fun z => absurd trivial z.1)
    refine W.eq (g2 := F0 m 34 ls [.int (iI (b2i (0 < (th_r_3))))]) rfl ?_
    refine xi_ifb_eq (tgt := 39) hx hb dX3_way_34 (by decide) (fun c_34 => ?_) (fun c_34 => ?_)
    · skip
      obtain rfl : th_r_3 = 0 := by omega
      refine xi_iconst hx hb dX3_way_39 ?_
      refine lv_iload_n hx hb dX3_way_40 rfl (lv_at hl 1 rfl) ?_
      refine lv_iload_n hx hb dX3_way_41 rfl (lv_at hl 2 rfl) ?_
      refine x_c0S (as := [.int (iI (n)), .int (iI (i))]) (rest := [.int (iI (-1))]) S hK (c_X3_wayOf l G H_c_2 (n) (i) (by omega) (by omega) (by omega) ) q1762 q1763 q43 q1764 hdX3_wayOf ⟨by decide, by decide⟩ hl.1 rfl rfl (Nat.le_of_ble_eq_true rfl) ⟨Nat.le_of_ble_eq_true rfl, Nat.le_of_ble_eq_true rfl⟩ dX3_way_42 ?_
      refine x_c0S (as := [.int (iI (-1)), .int (iI (wayZ (n) (i)))]) (rest := []) S hK (c_J11_max l G H_c_2 (-1) (wayZ (n) (i)) (by omega) (by omega) ) q1770 q780 q56 q781 hdJ11_max ⟨by decide, by decide⟩ hl.1 rfl rfl (Nat.le_of_ble_eq_true rfl) ⟨Nat.le_of_ble_eq_true rfl, Nat.le_of_ble_eq_true rfl⟩ dX3_way_45 ?_
      refine x_ret1i hx hb hr hlk hH hS (by omega) (by omega) ?_ dX3_way_48
      first | (exfalso; omega) | exact ⟨(_, _, _, _, _), (by unfold op_way; (repeat (first | with_reducible refine ifp (by omega) ?_ | with_reducible refine ifn (by omega) ?_)); first | rfl | exact comeF_s (by assumption) | exact comeF_n (by assumption) | exact comeF_s (if_pos (by omega)) | exact comeF_n (if_neg (by omega))), rfl, hw_r_3⟩
    · skip
      obtain rfl : th_r_3 = 1 := by omega
      refine xi_iconst hx hb dX3_way_37 ?_
      refine x_ret1i hx hb hr hlk hH hS (by omega) (by omega) ?_ dX3_way_38
      first | (exfalso; omega) | exact ⟨(_, _, _, _, _), (by unfold op_way; (repeat (first | with_reducible refine ifp (by omega) ?_ | with_reducible refine ifn (by omega) ?_)); first | rfl | exact comeF_s (by assumption) | exact comeF_n (by assumption) | exact comeF_s (if_pos (by omega)) | exact comeF_n (if_neg (by omega))), rfl, hw_r_3⟩
  · skip
    refine lv_iload_n hx hb dX3_way_13 rfl (lv_at hl 2 rfl) ?_
    refine xi_i2l hx hb (by omega) dX3_way_14 ?_
    refine xi_lconst (z := 0) hx hb (by decide +kernel) dX3_way_15 ?_
    refine xi_ldc2 (z := 9) hx hb S.2.2.2.1 S.2.2.2.2 q1769 (by decide +kernel) dX3_way_16 ?_
    refine x_c0S (as := [.long (jI (i)), .long (jI (0)), .long (jI (9))]) (rest := [.ref (h)]) S hK (c_X3_isIn l G H0 (i) (0) (9) (by omega) (by omega) (by omega) ) q1177 q1178 q43 q1179 hdX3_isIn ⟨by decide, by decide⟩ hl.1 rfl rfl (Nat.le_of_ble_eq_true rfl) ⟨Nat.le_of_ble_eq_true rfl, Nat.le_of_ble_eq_true rfl⟩ dX3_way_19 ?_
    refine xi_ifb_ne (tgt := 29) hx hb dX3_way_22 (by decide) (fun c_22 => ?_) (fun c_22 => ?_)
    · skip
      refine xi_iconst hx hb dX3_way_29 ?_
      refine xi_iconst hx hb dX3_way_30 ?_
      have hw_o_4 := hw
      obtain ⟨rb_o_4, hm_o_4, hq_o_4, hr_o_4, hza_o_4, hzc_o_4⟩ := hw_o_4
      refine x_c1V (as := [.int (iI (0)), .int (iI (1))]) (rest := []) S hK hm_o_4 rfl rfl (c_X3_start l G H0 (mc) (th) (ac) (no) (kn) (cc) (h) (False) (1) (by omega) (by first | assumption | omega) (by first | assumption | omega) (by first | assumption | omega) (by assumption) (by omega) hw) q1180 q1182 qs9 q43 q1183 hdX3_start ⟨by decide, by decide⟩ hl.1 rfl rfl (Nat.le_of_ble_eq_true rfl) ⟨Nat.le_of_ble_eq_true rfl, Nat.le_of_ble_eq_true rfl⟩ hS (fun q e => Or.inl (Or.inl e)) (fun q z => Or.inr z) dX3_way_31 (fun rv_c_5 H_c_5 locs hp_c_5 k_c_5 hS => ?_)
      have kw := kw.then k_c_5 (fun q e _ => Or.inl e)
      have hK := hK.keep k_c_5 (fun q e => by have e : q = h := e; omega)
      obtain ⟨th_r_6, hth_r_6, rfl, hw_r_6⟩ := hp_c_5
      have hth_r_6 := hth_r_6.elim (fun z => z.1.elim) (fun z => z.2)
      refine W.eq (g2 := F0 m 34 ls [.int (iI (b2i (0 < (th_r_6))))]) rfl ?_
      refine xi_ifb_eq (tgt := 39) hx hb dX3_way_34 (by decide) (fun c_34 => ?_) (fun c_34 => ?_)
      · skip
        obtain rfl : th_r_6 = 0 := by omega
        refine xi_iconst hx hb dX3_way_39 ?_
        refine lv_iload_n hx hb dX3_way_40 rfl (lv_at hl 1 rfl) ?_
        refine lv_iload_n hx hb dX3_way_41 rfl (lv_at hl 2 rfl) ?_
        refine x_c0S (as := [.int (iI (n)), .int (iI (i))]) (rest := [.int (iI (-1))]) S hK (c_X3_wayOf l G H_c_5 (n) (i) (by omega) (by omega) (by omega) ) q1762 q1763 q43 q1764 hdX3_wayOf ⟨by decide, by decide⟩ hl.1 rfl rfl (Nat.le_of_ble_eq_true rfl) ⟨Nat.le_of_ble_eq_true rfl, Nat.le_of_ble_eq_true rfl⟩ dX3_way_42 ?_
        refine x_c0S (as := [.int (iI (-1)), .int (iI (wayZ (n) (i)))]) (rest := []) S hK (c_J11_max l G H_c_5 (-1) (wayZ (n) (i)) (by omega) (by omega) ) q1770 q780 q56 q781 hdJ11_max ⟨by decide, by decide⟩ hl.1 rfl rfl (Nat.le_of_ble_eq_true rfl) ⟨Nat.le_of_ble_eq_true rfl, Nat.le_of_ble_eq_true rfl⟩ dX3_way_45 ?_
        refine x_ret1i hx hb hr hlk hH hS (by omega) (by omega) ?_ dX3_way_48
        first | (exfalso; omega) | exact ⟨(_, _, _, _, _), (by unfold op_way; (repeat (first | with_reducible refine ifp (by omega) ?_ | with_reducible refine ifn (by omega) ?_)); first | rfl | exact comeF_s (by assumption) | exact comeF_n (by assumption) | exact comeF_s (if_pos (by omega)) | exact comeF_n (if_neg (by omega))), rfl, hw_r_6⟩
      · skip
        obtain rfl : th_r_6 = 1 := by omega
        refine xi_iconst hx hb dX3_way_37 ?_
        refine x_ret1i hx hb hr hlk hH hS (by omega) (by omega) ?_ dX3_way_38
        first | (exfalso; omega) | exact ⟨(_, _, _, _, _), (by unfold op_way; (repeat (first | with_reducible refine ifp (by omega) ?_ | with_reducible refine ifn (by omega) ?_)); first | rfl | exact comeF_s (by assumption) | exact comeF_n (by assumption) | exact comeF_s (if_pos (by omega)) | exact comeF_n (if_neg (by omega))), rfl, hw_r_6⟩
    · skip
      refine xi_iconst hx hb dX3_way_25 ?_
      refine lv_goto (tgt := 30) hx hb dX3_way_26 (by decide) ?_
      refine xi_iconst hx hb dX3_way_30 ?_
      have hw_o_7 := hw
      obtain ⟨rb_o_7, hm_o_7, hq_o_7, hr_o_7, hza_o_7, hzc_o_7⟩ := hw_o_7
      refine x_c1V (as := [.int (iI (1)), .int (iI (1))]) (rest := []) S hK hm_o_7 rfl rfl (c_X3_start l G H0 (mc) (th) (ac) (no) (kn) (cc) (h) (True) (1) (by omega) (by first | assumption | omega) (by first | assumption | omega) (by first | assumption | omega) (by assumption) (by omega) hw) q1180 q1182 qs9 q43 q1183 hdX3_start ⟨by decide, by decide⟩ hl.1 rfl rfl (Nat.le_of_ble_eq_true rfl) ⟨Nat.le_of_ble_eq_true rfl, Nat.le_of_ble_eq_true rfl⟩ hS (fun q e => Or.inl (Or.inl e)) (fun q z => Or.inr z) dX3_way_31 (fun rv_c_8 H_c_8 locs hp_c_8 k_c_8 hS => ?_)
      have kw := kw.then k_c_8 (fun q e _ => Or.inl e)
      have hK := hK.keep k_c_8 (fun q e => by have e : q = h := e; omega)
      obtain ⟨th_r_9, hth_r_9, rfl, hw_r_9⟩ := hp_c_8
      have hth_r_9 := hth_r_9.elim (fun z => z.2) (fun z => absurd trivial z.1)
      refine W.eq (g2 := F0 m 34 ls [.int (iI (b2i (0 < (th_r_9))))]) rfl ?_
      refine xi_ifb_eq (tgt := 39) hx hb dX3_way_34 (by decide) (fun c_34 => ?_) (fun c_34 => ?_)
      · skip
        obtain rfl : th_r_9 = 0 := by omega
        refine xi_iconst hx hb dX3_way_39 ?_
        refine lv_iload_n hx hb dX3_way_40 rfl (lv_at hl 1 rfl) ?_
        refine lv_iload_n hx hb dX3_way_41 rfl (lv_at hl 2 rfl) ?_
        refine x_c0S (as := [.int (iI (n)), .int (iI (i))]) (rest := [.int (iI (-1))]) S hK (c_X3_wayOf l G H_c_8 (n) (i) (by omega) (by omega) (by omega) ) q1762 q1763 q43 q1764 hdX3_wayOf ⟨by decide, by decide⟩ hl.1 rfl rfl (Nat.le_of_ble_eq_true rfl) ⟨Nat.le_of_ble_eq_true rfl, Nat.le_of_ble_eq_true rfl⟩ dX3_way_42 ?_
        refine x_c0S (as := [.int (iI (-1)), .int (iI (wayZ (n) (i)))]) (rest := []) S hK (c_J11_max l G H_c_8 (-1) (wayZ (n) (i)) (by omega) (by omega) ) q1770 q780 q56 q781 hdJ11_max ⟨by decide, by decide⟩ hl.1 rfl rfl (Nat.le_of_ble_eq_true rfl) ⟨Nat.le_of_ble_eq_true rfl, Nat.le_of_ble_eq_true rfl⟩ dX3_way_45 ?_
        refine x_ret1i hx hb hr hlk hH hS (by omega) (by omega) ?_ dX3_way_48
        first | (exfalso; omega) | exact ⟨(_, _, _, _, _), (by unfold op_way; (repeat (first | with_reducible refine ifp (by omega) ?_ | with_reducible refine ifn (by omega) ?_)); first | rfl | exact comeF_s (by assumption) | exact comeF_n (by assumption) | exact comeF_s (if_pos (by omega)) | exact comeF_n (if_neg (by omega))), rfl, hw_r_9⟩
      · skip
        obtain rfl : th_r_9 = 1 := by omega
        refine xi_iconst hx hb dX3_way_37 ?_
        refine x_ret1i hx hb hr hlk hH hS (by omega) (by omega) ?_ dX3_way_38
        first | (exfalso; omega) | exact ⟨(_, _, _, _, _), (by unfold op_way; (repeat (first | with_reducible refine ifp (by omega) ?_ | with_reducible refine ifn (by omega) ?_)); first | rfl | exact comeF_s (by assumption) | exact comeF_n (by assumption) | exact comeF_s (if_pos (by omega)) | exact comeF_n (if_neg (by omega))), rfl, hw_r_9⟩

theorem hpX3_twoWays : plainFor yX3_twoWays = true := by decide +kernel
theorem hdX3_twoWays : nMH yX3_twoWays 2 := by decide +kernel
set_option maxHeartbeats 4000000 in
theorem c_X3_twoWays (l : Launch) (G : GG) (H0 : Heap) (mc : Nat) (th : Int) (ac : Int) (no : Int) (kn : Int) (cc : Nat → Row) (h : Nat) (n : Int) (t : Int) (r_n : -2147483648 ≤ n ∧ n < 2147483648) (r_t : -2147483648 ≤ t ∧ t < 2147483648) (hac : 0 ≤ ac ∧ ac ≤ 1000) (hno : 0 ≤ no ∧ no ≤ 1000) (hkn : 0 ≤ kn ∧ kn ≤ 1000) (hok : ∀ k : Nat, k < 8 → okR (cc k)) (hw : MW G (h) (mc) (th) (ac) (no) (kn) (cc) H0) : Ct1 l G yX3_twoWays cX3_twoWays 5 (Option.some Jvm.ClassFile.FieldType.int) 3 0 0 66 [.ref (h), .int (iI (n)), .int (iI (t))] H0 (fun q => q = h ∨ q = mc) (fun (rv : Option Value) (H1 : Heap) => ∃ z : Res, op_twoWays ac no cc (n) (t) = z ∧ rv = some (.int (iI z.2.1)) ∧ MW G h mc z.1 z.2.2.1 z.2.2.2.1 kn z.2.2.2.2 H1) := by
  refine Ct1.start hpX3_twoWays (Nat.le_of_ble_eq_true rfl) ?_
  intro p e s m below meth c ls hx hb hr S hlk hname hH hK hS hl
  have hl : lv_has ls 5 [(0, .ref (h)), (1, .int (iI (n))), (2, .int (iI (t)))] := hl
  have hbc : ∀ k : Nat, k < 8 → bRow (cc k) := fun k h => okR_b (hok k h)
  have kw : Keep (fun q => q = h ∨ q = mc) H0 H0 := Keep.rf
  have hz0 := hK.2.2.1
  refine lv_aload_n hx hb dX3_twoWays_0 rfl (lv_at hl 0 rfl) ?_
  refine lv_iload_n hx hb dX3_twoWays_1 rfl (lv_at hl 1 rfl) ?_
  refine xi_iconst hx hb dX3_twoWays_2 ?_
  refine lv_iload_n hx hb dX3_twoWays_3 rfl (lv_at hl 2 rfl) ?_
  refine xi_bipush hx hb (by decide) dX3_twoWays_4 ?_
  refine lv_iload_n hx hb dX3_twoWays_6 rfl (lv_at hl 1 rfl) ?_
  refine lv_iload_n hx hb dX3_twoWays_7 rfl (lv_at hl 2 rfl) ?_
  refine xi_iadd hx hb dX3_twoWays_8 ?_
  refine xi_iconst hx hb dX3_twoWays_9 ?_
  refine xi_isub hx hb dX3_twoWays_10 ?_
  refine xi_wrap (fun la r_la e_la => ?_)
  refine x_c0S (as := [.int (iI (n)), .int (iI (0)), .int (iI (t)), .int (iI (100)), .int (iI (la))]) (rest := [.ref (h)]) S hK (c_X3_isNoStretch l G H0 (n) (0) (t) (100) (la) (by first | omega | (have w_ := wtotZ_r j; omega)) (by first | omega | (have w_ := wtotZ_r j; omega)) (by first | omega | (have w_ := wtotZ_r j; omega)) (by first | omega | (have w_ := wtotZ_r j; omega)) (by first | omega | (have w_ := wtotZ_r j; omega)) ) q1775 q1776 q43 q1777 hdX3_isNoStretch ⟨by decide, by decide⟩ hl.1 rfl rfl (Nat.le_of_ble_eq_true rfl) ⟨Nat.le_of_ble_eq_true rfl, Nat.le_of_ble_eq_true rfl⟩ dX3_twoWays_11 ?_
  refine xi_iconst hx hb dX3_twoWays_14 ?_
  have hw_o_1 := hw
  obtain ⟨rb_o_1, hm_o_1, hq_o_1, hr_o_1, hza_o_1, hzc_o_1⟩ := hw_o_1
  refine x_c1V (as := [.int (iI (b2i (¬ ((0) ≤ (n) ∧ (n) ≤ 65535) ∨ ¬ (0 ≤ (t) ∧ (t) ≤ (100)) ∨ 65535 < (la)))), .int (iI (1))]) (rest := []) S hK hm_o_1 rfl rfl (c_X3_start l G H0 (mc) (th) (ac) (no) (kn) (cc) (h) (¬ ((0) ≤ (n) ∧ (n) ≤ 65535) ∨ ¬ (0 ≤ (t) ∧ (t) ≤ (100)) ∨ 65535 < (la)) (1) (by first | omega | (have w_ := wtotZ_r j; omega)) (by first | assumption | omega) (by first | assumption | omega) (by first | assumption | omega) (by assumption) (by omega) hw) q1180 q1182 qs9 q43 q1183 hdX3_start ⟨by decide, by decide⟩ hl.1 rfl rfl (Nat.le_of_ble_eq_true rfl) ⟨Nat.le_of_ble_eq_true rfl, Nat.le_of_ble_eq_true rfl⟩ hS (fun q e => Or.inl (Or.inl e)) (fun q z => Or.inr z) dX3_twoWays_15 (fun rv_c_2 H_c_2 locs hp_c_2 k_c_2 hS => ?_)
  have kw := kw.then k_c_2 (fun q e _ => Or.inl e)
  have hK := hK.keep k_c_2 (fun q e => by have e : q = h := e; omega)
  obtain ⟨th_r_3, hth_r_3, rfl, hw_r_3⟩ := hp_c_2
  refine W.eq (g2 := F0 m 18 ls [.int (iI (b2i (0 < (th_r_3))))]) rfl ?_
  refine xi_ifb_eq (tgt := 23) hx hb dX3_twoWays_18 (by decide) (fun c_18 => ?_) (fun c_18 => ?_)
  · skip
    obtain rfl : th_r_3 = 0 := by omega
    refine xi_iconst hx hb dX3_twoWays_23 ?_
    refine lv_istore_n (lv' := [(3, .int (iI (0))), (0, .ref (h)), (1, .int (iI (n))), (2, .int (iI (t)))]) hx hb dX3_twoWays_24 rfl hl (by decide) rfl (fun ls hl => ?_)
    refine lv_iload_n hx hb dX3_twoWays_25 rfl (lv_at hl 2 rfl) ?_
    refine lv_istore (lv' := [(4, .int (iI (n))), (3, .int (iI (0))), (0, .ref (h)), (1, .int (iI (n))), (2, .int (iI (t)))]) hx hb dX3_twoWays_26 hl (by decide) rfl (fun ls hl => ?_)
    have L_28 : ∀ (n_ : Nat) (j : Int) (k : Int) (hj : n ≤ j ∧ j ≤ n + t) (hk : k = cntZ (fun j => b2i (1 < wtotZ (n + j))) (j - n).toNat) (hk2 : 0 ≤ k ∧ k ≤ j - n) (hg : 0 ≤ n ∧ n ≤ 65535 ∧ 0 ≤ t ∧ t ≤ 100 ∧ n + t - 1 ≤ 65535) (H_L28 : Heap) (locs : List Loc) (cells_28 slots_28 : Nat) (hcs_28 : cells_28 = 0 ∧ slots_28 = 0) (kw : Keep (fun q => q = h ∨ q = mc) H0 H_L28) (hK : KH G s H_L28) (hS : va_S (xA (fun q => q = h ∨ q = mc) H0) H0 H_L28 locs) (hwl : MW G (h) (mc) (0) (ac) (no) (kn) (cc) H_L28) (hm_ : (n + t - j).toNat < n_) (ls : Array Slot) (hl : lv_has ls 5 [(4, .int (iI (j))), (3, .int (iI (k))), (0, .ref (h)), (1, .int (iI (n))), (2, .int (iI (t)))]), W p l e { frames := 3, cells := 0, slots := 0, locals := 66 } s m ([.ref (h), .int (iI (n)), .int (iI (t))] : List Value).toArray below meth c H_L28 locs cells_28 slots_28 (MQ below (xQ (fun (rv : Option Value) (H1 : Heap) => ∃ z : Res, op_twoWays ac no cc (n) (t) = z ∧ rv = some (.int (iI z.2.1)) ∧ MW G h mc z.1 z.2.2.1 z.2.2.2.1 kn z.2.2.2.2 H1) (xA (fun q => q = h ∨ q = mc) H0)) ([.ref (h), .int (iI (n)), .int (iI (t))] : List Value).toArray s 0 0 (xA (fun q => q = h ∨ q = mc) H0)) (F0 m 28 ls []) := by
      intro n_
      induction n_ with
      | zero =>
        intro j k hj hk hk2 hg H_L28 locs cells_28 slots_28 hcs_28 kw hK hS hwl hm_ ls hl
        exact absurd hm_ (Nat.not_lt_zero _)
      | succ n_ ih_28 =>
        intro j k hj hk hk2 hg H_L28 locs cells_28 slots_28 hcs_28 kw hK hS hwl hm_ ls hl
        refine lv_iload hx hb dX3_twoWays_28 (lv_at hl 0 rfl) ?_
        refine lv_iload_n hx hb dX3_twoWays_30 rfl (lv_at hl 3 rfl) ?_
        refine lv_iload_n hx hb dX3_twoWays_31 rfl (lv_at hl 4 rfl) ?_
        refine xi_iadd hx hb dX3_twoWays_32 ?_
        refine xi_icmp_ge (tgt := 62) hx hb dX3_twoWays_33 (by decide) (by first | omega | (have w_ := wtotZ_r j; omega)) (by first | omega | (have w_ := wtotZ_r j; omega)) (fun c_33 => ?_) (fun c_33 => ?_)
        · skip
          refine lv_iload_n hx hb dX3_twoWays_62 rfl (lv_at hl 1 rfl) ?_
          refine x_ret1i hx hb hr hlk hH hS (by omega) (by omega) ?_ dX3_twoWays_63
          first | (exfalso; omega) | exact ⟨(_, _, _, _, _), (by unfold op_twoWays; (repeat (first | with_reducible refine ifp (by omega) ?_ | with_reducible refine ifn (by omega) ?_)); first | rfl | exact comeF_s (by assumption) | exact comeF_n (by assumption) | exact comeF_s (if_pos (by omega)) | exact comeF_n (if_neg (by omega)) | (rw [show t.toNat = (j - n).toNat by omega, ← hk])), rfl, hwl⟩
        · skip
          refine lv_iload_n hx hb dX3_twoWays_36 rfl (lv_at hl 1 rfl) ?_
          refine lv_iload hx hb dX3_twoWays_37 (lv_at hl 0 rfl) ?_
          refine x_c0S (as := [.int (iI (j))]) (rest := [.int (iI (k))]) S hK (c_X3_waysOf l G H_L28 (j) (by first | omega | (have w_ := wtotZ_r j; omega)) (by omega) ) q1759 q1760 q43 q1761 hdX3_waysOf ⟨by decide, by decide⟩ hl.1 rfl rfl (Nat.le_of_ble_eq_true rfl) ⟨by omega, by omega⟩ dX3_twoWays_39 ?_
          refine xi_iconst hx hb dX3_twoWays_42 ?_
          refine xi_icmp_le (tgt := 50) hx hb dX3_twoWays_43 (by decide) (by first | omega | (have w_ := wtotZ_r j; omega)) (by first | omega | (have w_ := wtotZ_r j; omega)) (fun c_43 => ?_) (fun c_43 => ?_)
          · skip
            refine xi_iconst hx hb dX3_twoWays_50 ?_
            refine x_c0S (as := [.int (iI (0))]) (rest := [.int (iI (k))]) S hK (c_X3_one l G H_L28 (False)  ) q1145 q1146 q43 q1147 hdX3_one ⟨by decide, by decide⟩ hl.1 rfl rfl (Nat.le_of_ble_eq_true rfl) ⟨by omega, by omega⟩ dX3_twoWays_51 ?_
            refine xi_iadd hx hb dX3_twoWays_54 ?_
            refine lv_istore_n (lv' := [(3, .int (iI ((k) + (b2i (False))))), (4, .int (iI (j))), (0, .ref (h)), (1, .int (iI (n))), (2, .int (iI (t)))]) hx hb dX3_twoWays_55 rfl hl (by decide) rfl (fun ls hl => ?_)
            refine xi_iinc (lv' := [(4, .int (iI (j + 1))), (3, .int (iI ((k) + (b2i (False))))), (0, .ref (h)), (1, .int (iI (n))), (2, .int (iI (t)))]) hx hb dX3_twoWays_56 hl (k := 1) rfl (by decide) rfl (fun ls hl => ?_)
            refine lv_goto (tgt := 28) hx hb dX3_twoWays_59 (by decide) ?_
            exact ih_28 (j + 1) ((k) + (b2i (False))) (by omega) (by (first | (rw [show n - n = 0 by omega]; rfl) | (rw [show j + 1 - n = j - n + 1 by omega]; exact cnt_up (by omega) hk (by show b2i _ = b2i (1 < wtotZ (n + (((j - n).toNat : Nat) : Int))); rw [toNat_cast (by omega), show n + (j - n) = j by omega]; first | exact (b2i_1 trivial).trans (b2i_1 (by omega)).symm | exact (b2i_0 id).trans (b2i_0 (by omega)).symm)))) (by (first | omega | (have b1_ := b2i_r (P := True); have b2_ := b2i_r (P := False); omega))) (by omega) H_L28 locs (cells_28) (slots_28) (by constructor <;> omega) kw hK hS hwl (by omega) ls (lv_sub hl [0, 1, 2, 3, 4] rfl)
          · skip
            refine xi_iconst hx hb dX3_twoWays_46 ?_
            refine lv_goto (tgt := 51) hx hb dX3_twoWays_47 (by decide) ?_
            refine x_c0S (as := [.int (iI (1))]) (rest := [.int (iI (k))]) S hK (c_X3_one l G H_L28 (True)  ) q1145 q1146 q43 q1147 hdX3_one ⟨by decide, by decide⟩ hl.1 rfl rfl (Nat.le_of_ble_eq_true rfl) ⟨by omega, by omega⟩ dX3_twoWays_51 ?_
            refine xi_iadd hx hb dX3_twoWays_54 ?_
            refine lv_istore_n (lv' := [(3, .int (iI ((k) + (b2i (True))))), (4, .int (iI (j))), (0, .ref (h)), (1, .int (iI (n))), (2, .int (iI (t)))]) hx hb dX3_twoWays_55 rfl hl (by decide) rfl (fun ls hl => ?_)
            refine xi_iinc (lv' := [(4, .int (iI (j + 1))), (3, .int (iI ((k) + (b2i (True))))), (0, .ref (h)), (1, .int (iI (n))), (2, .int (iI (t)))]) hx hb dX3_twoWays_56 hl (k := 1) rfl (by decide) rfl (fun ls hl => ?_)
            refine lv_goto (tgt := 28) hx hb dX3_twoWays_59 (by decide) ?_
            exact ih_28 (j + 1) ((k) + (b2i (True))) (by omega) (by (first | (rw [show n - n = 0 by omega]; rfl) | (rw [show j + 1 - n = j - n + 1 by omega]; exact cnt_up (by omega) hk (by show b2i _ = b2i (1 < wtotZ (n + (((j - n).toNat : Nat) : Int))); rw [toNat_cast (by omega), show n + (j - n) = j by omega]; first | exact (b2i_1 trivial).trans (b2i_1 (by omega)).symm | exact (b2i_0 id).trans (b2i_0 (by omega)).symm)))) (by (first | omega | (have b1_ := b2i_r (P := True); have b2_ := b2i_r (P := False); omega))) (by omega) H_L28 locs (cells_28) (slots_28) (by constructor <;> omega) kw hK hS hwl (by omega) ls (lv_sub hl [0, 1, 2, 3, 4] rfl)
    exact L_28 (((n + t - (n)).toNat) + 1) (n) (0) (by omega) (by (first | (rw [show n - n = 0 by omega]; rfl) | (rw [show j + 1 - n = j - n + 1 by omega]; exact cnt_up (by omega) hk (by show b2i _ = b2i (1 < wtotZ (n + (((j - n).toNat : Nat) : Int))); rw [toNat_cast (by omega), show n + (j - n) = j by omega]; first | exact (b2i_1 trivial).trans (b2i_1 (by omega)).symm | exact (b2i_0 id).trans (b2i_0 (by omega)).symm)))) (by (first | omega | (have b1_ := b2i_r (P := True); have b2_ := b2i_r (P := False); omega))) (by omega) H_c_2 locs 0 0 (by constructor <;> omega) kw hK hS hw_r_3 (by omega) ls (lv_sub hl [0, 1, 2, 3, 4] rfl)
  · skip
    obtain rfl : th_r_3 = 1 := by omega
    refine xi_iconst hx hb dX3_twoWays_21 ?_
    refine x_ret1i hx hb hr hlk hH hS (by omega) (by omega) ?_ dX3_twoWays_22
    first | (exfalso; omega) | exact ⟨(_, _, _, _, _), (by unfold op_twoWays; (repeat (first | with_reducible refine ifp (by omega) ?_ | with_reducible refine ifn (by omega) ?_)); first | rfl | exact comeF_s (by assumption) | exact comeF_n (by assumption) | exact comeF_s (if_pos (by omega)) | exact comeF_n (if_neg (by omega)) | (rw [show t.toNat = (j - n).toNat by omega, ← hk])), rfl, hw_r_3⟩

