set_option maxRecDepth 100000
theorem hpJ11_abs_2 : plainFor yJ11_abs_2 = true := by decide +kernel
theorem hdJ11_abs_2 : nMH yJ11_abs_2 1 := by decide +kernel
set_option maxHeartbeats 4000000 in
theorem c_J11_abs_2 (l : Launch) (G : GG) (H0 : Heap) (a : Int) (r_a : -2147483648 ≤ a ∧ a < 2147483648) (hm : -2147483648 < a) : Ct0 l G yJ11_abs_2 cJ11_abs_2 1 (Option.some Jvm.ClassFile.FieldType.int) 0 0 [.int (iI (a))] H0 (.int (iI ((a.natAbs : Int)))) := by
  refine Ct0.start hpJ11_abs_2 (Nat.le_of_ble_eq_true rfl) ?_
  intro p e s m below meth c ls hx hb hr S hlk hH hK hl
  have hl : lv_has ls 1 [(0, .int (iI (a)))] := hl
  refine lv_iload_n hx hb dJ11_abs_2_0 rfl (lv_at hl 0 rfl) ?_
  refine xi_if_ge (tgt := 9) hx hb dJ11_abs_2_1 (by decide) (by omega) (fun c_1 => ?_) (fun c_1 => ?_)
  · skip
    refine lv_iload_n hx hb dJ11_abs_2_9 rfl (lv_at hl 0 rfl) ?_
    exact x_ret0i hx hb hr hlk hH (by first | rfl | omega | exact b2i_1 (by assumption) | exact b2i_0 (by assumption)) dJ11_abs_2_10
  · skip
    refine lv_iload_n hx hb dJ11_abs_2_4 rfl (lv_at hl 0 rfl) ?_
    refine xi_ineg hx hb dJ11_abs_2_5 ?_
    refine lv_goto (tgt := 10) hx hb dJ11_abs_2_6 (by decide) ?_
    exact x_ret0i hx hb hr hlk hH (by first | rfl | omega | exact b2i_1 (by assumption) | exact b2i_0 (by assumption)) dJ11_abs_2_10

theorem hpJ11_max : plainFor yJ11_max = true := by decide +kernel
theorem hdJ11_max : nMH yJ11_max 2 := by decide +kernel
set_option maxHeartbeats 4000000 in
theorem c_J11_max (l : Launch) (G : GG) (H0 : Heap) (a : Int) (b : Int) (r_a : -2147483648 ≤ a ∧ a < 2147483648) (r_b : -2147483648 ≤ b ∧ b < 2147483648) : Ct0 l G yJ11_max cJ11_max 2 (Option.some Jvm.ClassFile.FieldType.int) 0 0 [.int (iI (a)), .int (iI (b))] H0 (.int (iI (max a b))) := by
  refine Ct0.start hpJ11_max (Nat.le_of_ble_eq_true rfl) ?_
  intro p e s m below meth c ls hx hb hr S hlk hH hK hl
  have hl : lv_has ls 2 [(0, .int (iI (a))), (1, .int (iI (b)))] := hl
  refine lv_iload_n hx hb dJ11_max_0 rfl (lv_at hl 0 rfl) ?_
  refine lv_iload_n hx hb dJ11_max_1 rfl (lv_at hl 1 rfl) ?_
  refine xi_icmp_lt (tgt := 9) hx hb dJ11_max_2 (by decide) (by omega) (by omega) (fun c_2 => ?_) (fun c_2 => ?_)
  · skip
    refine lv_iload_n hx hb dJ11_max_9 rfl (lv_at hl 1 rfl) ?_
    exact x_ret0i hx hb hr hlk hH (by first | rfl | omega | exact b2i_1 (by assumption) | exact b2i_0 (by assumption)) dJ11_max_10
  · skip
    refine lv_iload_n hx hb dJ11_max_5 rfl (lv_at hl 0 rfl) ?_
    refine lv_goto (tgt := 10) hx hb dJ11_max_6 (by decide) ?_
    exact x_ret0i hx hb hr hlk hH (by first | rfl | omega | exact b2i_1 (by assumption) | exact b2i_0 (by assumption)) dJ11_max_10

theorem hpJ11_min : plainFor yJ11_min = true := by decide +kernel
theorem hdJ11_min : nMH yJ11_min 2 := by decide +kernel
set_option maxHeartbeats 4000000 in
theorem c_J11_min (l : Launch) (G : GG) (H0 : Heap) (a : Int) (b : Int) (r_a : -2147483648 ≤ a ∧ a < 2147483648) (r_b : -2147483648 ≤ b ∧ b < 2147483648) : Ct0 l G yJ11_min cJ11_min 2 (Option.some Jvm.ClassFile.FieldType.int) 0 0 [.int (iI (a)), .int (iI (b))] H0 (.int (iI (min a b))) := by
  refine Ct0.start hpJ11_min (Nat.le_of_ble_eq_true rfl) ?_
  intro p e s m below meth c ls hx hb hr S hlk hH hK hl
  have hl : lv_has ls 2 [(0, .int (iI (a))), (1, .int (iI (b)))] := hl
  refine lv_iload_n hx hb dJ11_min_0 rfl (lv_at hl 0 rfl) ?_
  refine lv_iload_n hx hb dJ11_min_1 rfl (lv_at hl 1 rfl) ?_
  refine xi_icmp_gt (tgt := 9) hx hb dJ11_min_2 (by decide) (by omega) (by omega) (fun c_2 => ?_) (fun c_2 => ?_)
  · skip
    refine lv_iload_n hx hb dJ11_min_9 rfl (lv_at hl 1 rfl) ?_
    exact x_ret0i hx hb hr hlk hH (by first | rfl | omega | exact b2i_1 (by assumption) | exact b2i_0 (by assumption)) dJ11_min_10
  · skip
    refine lv_iload_n hx hb dJ11_min_5 rfl (lv_at hl 0 rfl) ?_
    refine lv_goto (tgt := 10) hx hb dJ11_min_6 (by decide) ?_
    exact x_ret0i hx hb hr hlk hH (by first | rfl | omega | exact b2i_1 (by assumption) | exact b2i_0 (by assumption)) dJ11_min_10

theorem hpX3_isIn : plainFor yX3_isIn = true := by decide +kernel
theorem hdX3_isIn : nMH yX3_isIn 3 := by decide +kernel
set_option maxHeartbeats 4000000 in
theorem c_X3_isIn (l : Launch) (G : GG) (H0 : Heap) (v : Int) (lo : Int) (hi : Int) (r_v : -9223372036854775808 ≤ v ∧ v < 9223372036854775808) (r_lo : -9223372036854775808 ≤ lo ∧ lo < 9223372036854775808) (r_hi : -9223372036854775808 ≤ hi ∧ hi < 9223372036854775808) : Ct0 l G yX3_isIn cX3_isIn 6 (Option.some Jvm.ClassFile.FieldType.boolean) 0 0 [.long (jI (v)), .long (jI (lo)), .long (jI (hi))] H0 (.int (iI (b2i (lo ≤ v ∧ v ≤ hi)))) := by
  refine Ct0.start hpX3_isIn (Nat.le_of_ble_eq_true rfl) ?_
  intro p e s m below meth c ls hx hb hr S hlk hH hK hl
  have hl : lv_has ls 6 [(0, .long (jI (v))), (2, .long (jI (lo))), (4, .long (jI (hi)))] := hl
  refine lv_lload_n hx hb dX3_isIn_0 rfl (lv_at hl 0 rfl) ?_
  refine lv_lload_n hx hb dX3_isIn_1 rfl (lv_at hl 1 rfl) ?_
  refine xi_lcmp hx hb (by omega) (by omega) dX3_isIn_2 ?_
  refine xi_ifz_lt (tgt := 17) hx hb dX3_isIn_3 (by decide) (fun c_3 => ?_) (fun c_3 => ?_)
  · skip
    refine xi_iconst hx hb dX3_isIn_17 ?_
    exact x_ret0z hx hb hr hlk hH (by exact b2i_0 (by omega)) dX3_isIn_18
  · skip
    refine lv_lload_n hx hb dX3_isIn_6 rfl (lv_at hl 0 rfl) ?_
    refine lv_lload hx hb dX3_isIn_7 (lv_at hl 2 rfl) ?_
    refine xi_lcmp hx hb (by omega) (by omega) dX3_isIn_9 ?_
    refine xi_ifz_gt (tgt := 17) hx hb dX3_isIn_10 (by decide) (fun c_10 => ?_) (fun c_10 => ?_)
    · skip
      refine xi_iconst hx hb dX3_isIn_17 ?_
      exact x_ret0z hx hb hr hlk hH (by exact b2i_0 (by omega)) dX3_isIn_18
    · skip
      refine xi_iconst hx hb dX3_isIn_13 ?_
      refine lv_goto (tgt := 18) hx hb dX3_isIn_14 (by decide) ?_
      exact x_ret0z hx hb hr hlk hH (by exact b2i_1 (by omega)) dX3_isIn_18

theorem hpX3_one : plainFor yX3_one = true := by decide +kernel
theorem hdX3_one : nMH yX3_one 1 := by decide +kernel
set_option maxHeartbeats 4000000 in
theorem c_X3_one (l : Launch) (G : GG) (H0 : Heap) (P : Prop) [Decidable P]  : Ct0 l G yX3_one cX3_one 1 (Option.some Jvm.ClassFile.FieldType.int) 0 0 [.int (iI (b2i (P)))] H0 (.int (iI (b2i (P)))) := by
  refine Ct0.start hpX3_one (Nat.le_of_ble_eq_true rfl) ?_
  intro p e s m below meth c ls hx hb hr S hlk hH hK hl
  have hl : lv_has ls 1 [(0, .int (iI (b2i (P))))] := hl
  refine lv_iload_n hx hb dX3_one_0 rfl (lv_at hl 0 rfl) ?_
  refine xi_ifb_eq (tgt := 8) hx hb dX3_one_1 (by decide) (fun c_1 => ?_) (fun c_1 => ?_)
  · skip
    refine xi_iconst hx hb dX3_one_8 ?_
    exact x_ret0i hx hb hr hlk hH (by first | rfl | omega | exact b2i_1 (by assumption) | exact b2i_0 (by assumption)) dX3_one_9
  · skip
    refine xi_iconst hx hb dX3_one_4 ?_
    refine lv_goto (tgt := 9) hx hb dX3_one_5 (by decide) ?_
    exact x_ret0i hx hb hr hlk hH (by first | rfl | omega | exact b2i_1 (by assumption) | exact b2i_0 (by assumption)) dX3_one_9

theorem hpX3_isNoCell : plainFor yX3_isNoCell = true := by decide +kernel
theorem hdX3_isNoCell : nMH yX3_isNoCell 1 := by decide +kernel
set_option maxHeartbeats 4000000 in
theorem c_X3_isNoCell (l : Launch) (G : GG) (H0 : Heap) (k : Int) (r_k : -2147483648 ≤ k ∧ k < 2147483648) : Ct0 l G yX3_isNoCell cX3_isNoCell 1 (Option.some Jvm.ClassFile.FieldType.boolean) 1 25 [.int (iI (k))] H0 (.int (iI (b2i (¬ (0 ≤ k ∧ k ≤ 7))))) := by
  refine Ct0.start hpX3_isNoCell (Nat.le_of_ble_eq_true rfl) ?_
  intro p e s m below meth c ls hx hb hr S hlk hH hK hl
  have hl : lv_has ls 1 [(0, .int (iI (k)))] := hl
  refine lv_iload_n hx hb dX3_isNoCell_0 rfl (lv_at hl 0 rfl) ?_
  refine xi_i2l hx hb (by omega) dX3_isNoCell_1 ?_
  refine xi_lconst (z := 0) hx hb (by decide +kernel) dX3_isNoCell_2 ?_
  refine xi_ldc2 (z := 7) hx hb S.2.2.2.1 S.2.2.2.2 q1176 (by decide +kernel) dX3_isNoCell_3 ?_
  refine x_c0S (as := [.long (jI (k)), .long (jI (0)), .long (jI (7))]) (rest := []) S hK (c_X3_isIn l G H0 (k) (0) (7) (by omega) (by omega) (by omega) ) q1177 q1178 q43 q1179 hdX3_isIn ⟨by decide, by decide⟩ hl.1 rfl rfl (Nat.le_of_ble_eq_true rfl) ⟨Nat.le_of_ble_eq_true rfl, Nat.le_of_ble_eq_true rfl⟩ dX3_isNoCell_6 ?_
  refine xi_ifb_ne (tgt := 16) hx hb dX3_isNoCell_9 (by decide) (fun c_9 => ?_) (fun c_9 => ?_)
  · skip
    refine xi_iconst hx hb dX3_isNoCell_16 ?_
    exact x_ret0z hx hb hr hlk hH (by exact b2i_0 (by omega)) dX3_isNoCell_17
  · skip
    refine xi_iconst hx hb dX3_isNoCell_12 ?_
    refine lv_goto (tgt := 17) hx hb dX3_isNoCell_13 (by decide) ?_
    exact x_ret0z hx hb hr hlk hH (by exact b2i_1 (by omega)) dX3_isNoCell_17

theorem hpX3_isOfSet : plainFor yX3_isOfSet = true := by decide +kernel
theorem hdX3_isOfSet : nMH yX3_isOfSet 1 := by decide +kernel
set_option maxHeartbeats 4000000 in
theorem c_X3_isOfSet (l : Launch) (G : GG) (H0 : Heap) (t : Int) (r_t : -9223372036854775808 ≤ t ∧ t < 9223372036854775808) : Ct0 l G yX3_isOfSet cX3_isOfSet 2 (Option.some Jvm.ClassFile.FieldType.boolean) 1 25 [.long (jI (t))] H0 (.int (iI (b2i (ofSet t)))) := by
  refine Ct0.start hpX3_isOfSet (Nat.le_of_ble_eq_true rfl) ?_
  intro p e s m below meth c ls hx hb hr S hlk hH hK hl
  have hl : lv_has ls 2 [(0, .long (jI (t)))] := hl
  refine lv_lload_n hx hb dX3_isOfSet_0 rfl (lv_at hl 0 rfl) ?_
  refine xi_ldc2 (z := -65535) hx hb S.2.2.2.1 S.2.2.2.2 q1188 (by decide +kernel) dX3_isOfSet_1 ?_
  refine xi_ldc2 (z := 65535) hx hb S.2.2.2.1 S.2.2.2.2 q1189 (by decide +kernel) dX3_isOfSet_4 ?_
  refine x_c0S (as := [.long (jI (t)), .long (jI (-65535)), .long (jI (65535))]) (rest := []) S hK (c_X3_isIn l G H0 (t) (-65535) (65535) (by omega) (by omega) (by omega) ) q1177 q1178 q43 q1179 hdX3_isIn ⟨by decide, by decide⟩ hl.1 rfl rfl (Nat.le_of_ble_eq_true rfl) ⟨Nat.le_of_ble_eq_true rfl, Nat.le_of_ble_eq_true rfl⟩ dX3_isOfSet_7 ?_
  refine xi_ifb_ne (tgt := 36) hx hb dX3_isOfSet_10 (by decide) (fun c_10 => ?_) (fun c_10 => ?_)
  · skip
    refine xi_iconst hx hb dX3_isOfSet_36 ?_
    refine lv_goto (tgt := 41) hx hb dX3_isOfSet_37 (by decide) ?_
    exact x_ret0z hx hb hr hlk hH (by exact b2i_1 (by omega)) dX3_isOfSet_41
  · skip
    refine lv_lload_n hx hb dX3_isOfSet_13 rfl (lv_at hl 0 rfl) ?_
    refine xi_ldc2 (z := -524280) hx hb S.2.2.2.1 S.2.2.2.2 q1230 (by decide +kernel) dX3_isOfSet_14 ?_
    refine xi_ldc2 (z := 524280) hx hb S.2.2.2.1 S.2.2.2.2 q1231 (by decide +kernel) dX3_isOfSet_17 ?_
    refine x_c0S (as := [.long (jI (t)), .long (jI (-524280)), .long (jI (524280))]) (rest := []) S hK (c_X3_isIn l G H0 (t) (-524280) (524280) (by omega) (by omega) (by omega) ) q1177 q1178 q43 q1179 hdX3_isIn ⟨by decide, by decide⟩ hl.1 rfl rfl (Nat.le_of_ble_eq_true rfl) ⟨Nat.le_of_ble_eq_true rfl, Nat.le_of_ble_eq_true rfl⟩ dX3_isOfSet_20 ?_
    refine xi_ifb_eq (tgt := 40) hx hb dX3_isOfSet_23 (by decide) (fun c_23 => ?_) (fun c_23 => ?_)
    · skip
      refine xi_iconst hx hb dX3_isOfSet_40 ?_
      exact x_ret0z hx hb hr hlk hH (by exact b2i_0 (by omega)) dX3_isOfSet_41
    · skip
      refine lv_lload_n hx hb dX3_isOfSet_26 rfl (lv_at hl 0 rfl) ?_
      refine xi_ldc2 (z := 8) hx hb S.2.2.2.1 S.2.2.2.2 q1232 (by decide +kernel) dX3_isOfSet_27 ?_
      refine xi_lrem hx hb (by omega) (by omega) (by omega) (by omega) dX3_isOfSet_30 ?_
      have td_30 := tdm (t) (8) (by decide)
      refine xi_lconst (z := 0) hx hb (by decide +kernel) dX3_isOfSet_31 ?_
      refine xi_lcmp hx hb (by omega) (by omega) dX3_isOfSet_32 ?_
      refine xi_ifz_ne (tgt := 40) hx hb dX3_isOfSet_33 (by decide) (fun c_33 => ?_) (fun c_33 => ?_)
      · skip
        refine xi_iconst hx hb dX3_isOfSet_40 ?_
        exact x_ret0z hx hb hr hlk hH (by exact b2i_0 (by omega)) dX3_isOfSet_41
      · skip
        refine xi_iconst hx hb dX3_isOfSet_36 ?_
        refine lv_goto (tgt := 41) hx hb dX3_isOfSet_37 (by decide) ?_
        exact x_ret0z hx hb hr hlk hH (by exact b2i_1 (by omega)) dX3_isOfSet_41

theorem hpX3_isWide : plainFor yX3_isWide = true := by decide +kernel
theorem hdX3_isWide : nMH yX3_isWide 1 := by decide +kernel
set_option maxHeartbeats 4000000 in
theorem c_X3_isWide (l : Launch) (G : GG) (H0 : Heap) (v : Int) (r_v : -9223372036854775808 ≤ v ∧ v < 9223372036854775808) : Ct0 l G yX3_isWide cX3_isWide 2 (Option.some Jvm.ClassFile.FieldType.boolean) 1 25 [.long (jI (v))] H0 (.int (iI (b2i (¬ (-2147483648 ≤ v ∧ v ≤ 2147483647))))) := by
  refine Ct0.start hpX3_isWide (Nat.le_of_ble_eq_true rfl) ?_
  intro p e s m below meth c ls hx hb hr S hlk hH hK hl
  have hl : lv_has ls 2 [(0, .long (jI (v)))] := hl
  refine lv_lload_n hx hb dX3_isWide_0 rfl (lv_at hl 0 rfl) ?_
  refine xi_ldc2 (z := -2147483648) hx hb S.2.2.2.1 S.2.2.2.2 q1615 (by decide +kernel) dX3_isWide_1 ?_
  refine xi_ldc2 (z := 2147483647) hx hb S.2.2.2.1 S.2.2.2.2 q1616 (by decide +kernel) dX3_isWide_4 ?_
  refine x_c0S (as := [.long (jI (v)), .long (jI (-2147483648)), .long (jI (2147483647))]) (rest := []) S hK (c_X3_isIn l G H0 (v) (-2147483648) (2147483647) (by omega) (by omega) (by omega) ) q1177 q1178 q43 q1179 hdX3_isIn ⟨by decide, by decide⟩ hl.1 rfl rfl (Nat.le_of_ble_eq_true rfl) ⟨Nat.le_of_ble_eq_true rfl, Nat.le_of_ble_eq_true rfl⟩ dX3_isWide_7 ?_
  refine xi_ifb_ne (tgt := 17) hx hb dX3_isWide_10 (by decide) (fun c_10 => ?_) (fun c_10 => ?_)
  · skip
    refine xi_iconst hx hb dX3_isWide_17 ?_
    exact x_ret0z hx hb hr hlk hH (by exact b2i_0 (by omega)) dX3_isWide_18
  · skip
    refine xi_iconst hx hb dX3_isWide_13 ?_
    refine lv_goto (tgt := 18) hx hb dX3_isWide_14 (by decide) ?_
    exact x_ret0z hx hb hr hlk hH (by exact b2i_1 (by omega)) dX3_isWide_18

theorem hpX3_add : plainFor yX3_add = true := by decide +kernel
theorem hdX3_add : nMH yX3_add 2 := by decide +kernel
set_option maxHeartbeats 4000000 in
theorem c_X3_add (l : Launch) (G : GG) (H0 : Heap) (a : Int) (b : Int) (r_a : -9223372036854775808 ≤ a ∧ a < 9223372036854775808) (r_b : -9223372036854775808 ≤ b ∧ b < 9223372036854775808) : Ct0 l G yX3_add cX3_add 4 (Option.some Jvm.ClassFile.FieldType.long) 0 0 [.long (jI (a)), .long (jI (b))] H0 (.long (jI (a * 31 + b))) := by
  refine Ct0.start hpX3_add (Nat.le_of_ble_eq_true rfl) ?_
  intro p e s m below meth c ls hx hb hr S hlk hH hK hl
  have hl : lv_has ls 4 [(0, .long (jI (a))), (2, .long (jI (b)))] := hl
  refine lv_lload_n hx hb dX3_add_0 rfl (lv_at hl 0 rfl) ?_
  refine xi_ldc2 (z := 31) hx hb S.2.2.2.1 S.2.2.2.2 q1846 (by decide +kernel) dX3_add_1 ?_
  refine xi_lmul hx hb dX3_add_4 ?_
  refine lv_lload_n hx hb dX3_add_5 rfl (lv_at hl 1 rfl) ?_
  refine xi_ladd hx hb dX3_add_6 ?_
  exact x_ret0j hx hb hr hlk hH (by first | rfl | omega | exact b2i_1 (by assumption) | exact b2i_0 (by assumption)) dX3_add_7

theorem hpX3_isNoStretch : plainFor yX3_isNoStretch = true := by decide +kernel
theorem hdX3_isNoStretch : nMH yX3_isNoStretch 5 := by decide +kernel
set_option maxHeartbeats 4000000 in
theorem c_X3_isNoStretch (l : Launch) (G : GG) (H0 : Heap) (f : Int) (lo : Int) (mm : Int) (hi : Int) (la : Int) (r_f : -2147483648 ≤ f ∧ f < 2147483648) (r_lo : -2147483648 ≤ lo ∧ lo < 2147483648) (r_mm : -2147483648 ≤ mm ∧ mm < 2147483648) (r_hi : -2147483648 ≤ hi ∧ hi < 2147483648) (r_la : -2147483648 ≤ la ∧ la < 2147483648) : Ct0 l G yX3_isNoStretch cX3_isNoStretch 5 (Option.some Jvm.ClassFile.FieldType.boolean) 1 25 [.int (iI (f)), .int (iI (lo)), .int (iI (mm)), .int (iI (hi)), .int (iI (la))] H0 (.int (iI (b2i (¬ (lo ≤ f ∧ f ≤ 65535) ∨ ¬ (0 ≤ mm ∧ mm ≤ hi) ∨ 65535 < la)))) := by
  refine Ct0.start hpX3_isNoStretch (Nat.le_of_ble_eq_true rfl) ?_
  intro p e s m below meth c ls hx hb hr S hlk hH hK hl
  have hl : lv_has ls 5 [(0, .int (iI (f))), (1, .int (iI (lo))), (2, .int (iI (mm))), (3, .int (iI (hi))), (4, .int (iI (la)))] := hl
  refine lv_iload_n hx hb dX3_isNoStretch_0 rfl (lv_at hl 0 rfl) ?_
  refine xi_i2l hx hb (by omega) dX3_isNoStretch_1 ?_
  refine lv_iload_n hx hb dX3_isNoStretch_2 rfl (lv_at hl 1 rfl) ?_
  refine xi_i2l hx hb (by omega) dX3_isNoStretch_3 ?_
  refine xi_ldc2 (z := 65535) hx hb S.2.2.2.1 S.2.2.2.2 q1189 (by decide +kernel) dX3_isNoStretch_4 ?_
  refine x_c0S (as := [.long (jI (f)), .long (jI (lo)), .long (jI (65535))]) (rest := []) S hK (c_X3_isIn l G H0 (f) (lo) (65535) (by omega) (by omega) (by omega) ) q1177 q1178 q43 q1179 hdX3_isIn ⟨by decide, by decide⟩ hl.1 rfl rfl (Nat.le_of_ble_eq_true rfl) ⟨Nat.le_of_ble_eq_true rfl, Nat.le_of_ble_eq_true rfl⟩ dX3_isNoStretch_7 ?_
  refine xi_ifb_eq (tgt := 32) hx hb dX3_isNoStretch_10 (by decide) (fun c_10 => ?_) (fun c_10 => ?_)
  · skip
    refine xi_iconst hx hb dX3_isNoStretch_32 ?_
    refine lv_goto (tgt := 37) hx hb dX3_isNoStretch_33 (by decide) ?_
    exact x_ret0z hx hb hr hlk hH (by exact b2i_1 (by omega)) dX3_isNoStretch_37
  · skip
    refine lv_iload_n hx hb dX3_isNoStretch_13 rfl (lv_at hl 2 rfl) ?_
    refine xi_i2l hx hb (by omega) dX3_isNoStretch_14 ?_
    refine xi_lconst (z := 0) hx hb (by decide +kernel) dX3_isNoStretch_15 ?_
    refine lv_iload_n hx hb dX3_isNoStretch_16 rfl (lv_at hl 3 rfl) ?_
    refine xi_i2l hx hb (by omega) dX3_isNoStretch_17 ?_
    refine x_c0S (as := [.long (jI (mm)), .long (jI (0)), .long (jI (hi))]) (rest := []) S hK (c_X3_isIn l G H0 (mm) (0) (hi) (by omega) (by omega) (by omega) ) q1177 q1178 q43 q1179 hdX3_isIn ⟨by decide, by decide⟩ hl.1 rfl rfl (Nat.le_of_ble_eq_true rfl) ⟨Nat.le_of_ble_eq_true rfl, Nat.le_of_ble_eq_true rfl⟩ dX3_isNoStretch_18 ?_
    refine xi_ifb_eq (tgt := 32) hx hb dX3_isNoStretch_21 (by decide) (fun c_21 => ?_) (fun c_21 => ?_)
    · skip
      refine xi_iconst hx hb dX3_isNoStretch_32 ?_
      refine lv_goto (tgt := 37) hx hb dX3_isNoStretch_33 (by decide) ?_
      exact x_ret0z hx hb hr hlk hH (by exact b2i_1 (by omega)) dX3_isNoStretch_37
    · skip
      refine lv_iload hx hb dX3_isNoStretch_24 (lv_at hl 4 rfl) ?_
      refine xi_ldc_w (z := 65535) hx hb S.2.2.2.1 S.2.2.2.2 q1778 (by decide +kernel) dX3_isNoStretch_26 ?_
      refine xi_icmp_le (tgt := 36) hx hb dX3_isNoStretch_29 (by decide) (by omega) (by omega) (fun c_29 => ?_) (fun c_29 => ?_)
      · skip
        refine xi_iconst hx hb dX3_isNoStretch_36 ?_
        exact x_ret0z hx hb hr hlk hH (by exact b2i_0 (by omega)) dX3_isNoStretch_37
      · skip
        refine xi_iconst hx hb dX3_isNoStretch_32 ?_
        refine lv_goto (tgt := 37) hx hb dX3_isNoStretch_33 (by decide) ?_
        exact x_ret0z hx hb hr hlk hH (by exact b2i_1 (by omega)) dX3_isNoStretch_37

theorem hpX3_isAlike : plainFor yX3_isAlike = true := by decide +kernel
theorem hdX3_isAlike : nMH yX3_isAlike 2 := by decide +kernel
set_option maxHeartbeats 4000000 in
theorem c_X3_isAlike (l : Launch) (G : GG) (H0 : Heap) (a : Row) (b : Row) (x : Nat) (y : Nat) (ba : bRow a) (bb : bRow b) (fa : RowAt G (x) (a) H0) (fb : RowAt G (y) (b) H0) : Ct0 l G yX3_isAlike cX3_isAlike 2 (Option.some Jvm.ClassFile.FieldType.boolean) 0 0 [.ref (x), .ref (y)] H0 (.int (iI (b2i (alikeR a b)))) := by
  refine Ct0.start hpX3_isAlike (Nat.le_of_ble_eq_true rfl) ?_
  intro p e s m below meth c ls hx hb hr S hlk hH hK hl
  have hl : lv_has ls 2 [(0, .ref (x)), (1, .ref (y))] := hl
  refine lv_aload_n hx hb dX3_isAlike_0 rfl (lv_at hl 0 rfl) ?_
  refine xi_iconst hx hb dX3_isAlike_1 ?_
  refine x_iald (w := (a).1) S hK fa (by omega) (by decide) rfl dX3_isAlike_2 ?_
  refine lv_aload_n hx hb dX3_isAlike_3 rfl (lv_at hl 1 rfl) ?_
  refine xi_iconst hx hb dX3_isAlike_4 ?_
  refine x_iald (w := (b).1) S hK fb (by omega) (by decide) rfl dX3_isAlike_5 ?_
  refine xi_icmp_ne (tgt := 31) hx hb dX3_isAlike_6 (by decide) (by omega) (by omega) (fun c_6 => ?_) (fun c_6 => ?_)
  · skip
    refine xi_iconst hx hb dX3_isAlike_31 ?_
    exact x_ret0z hx hb hr hlk hH (by exact b2i_0 (by omega)) dX3_isAlike_32
  · skip
    refine lv_aload_n hx hb dX3_isAlike_9 rfl (lv_at hl 0 rfl) ?_
    refine xi_iconst hx hb dX3_isAlike_10 ?_
    refine x_iald (w := (a).2.1) S hK fa (by omega) (by decide) rfl dX3_isAlike_11 ?_
    refine lv_aload_n hx hb dX3_isAlike_12 rfl (lv_at hl 1 rfl) ?_
    refine xi_iconst hx hb dX3_isAlike_13 ?_
    refine x_iald (w := (b).2.1) S hK fb (by omega) (by decide) rfl dX3_isAlike_14 ?_
    refine xi_icmp_ne (tgt := 31) hx hb dX3_isAlike_15 (by decide) (by omega) (by omega) (fun c_15 => ?_) (fun c_15 => ?_)
    · skip
      refine xi_iconst hx hb dX3_isAlike_31 ?_
      exact x_ret0z hx hb hr hlk hH (by exact b2i_0 (by omega)) dX3_isAlike_32
    · skip
      refine lv_aload_n hx hb dX3_isAlike_18 rfl (lv_at hl 0 rfl) ?_
      refine xi_iconst hx hb dX3_isAlike_19 ?_
      refine x_iald (w := (a).2.2) S hK fa (by omega) (by decide) rfl dX3_isAlike_20 ?_
      refine lv_aload_n hx hb dX3_isAlike_21 rfl (lv_at hl 1 rfl) ?_
      refine xi_iconst hx hb dX3_isAlike_22 ?_
      refine x_iald (w := (b).2.2) S hK fb (by omega) (by decide) rfl dX3_isAlike_23 ?_
      refine xi_icmp_ne (tgt := 31) hx hb dX3_isAlike_24 (by decide) (by omega) (by omega) (fun c_24 => ?_) (fun c_24 => ?_)
      · skip
        refine xi_iconst hx hb dX3_isAlike_31 ?_
        exact x_ret0z hx hb hr hlk hH (by exact b2i_0 (by omega)) dX3_isAlike_32
      · skip
        refine xi_iconst hx hb dX3_isAlike_27 ?_
        refine lv_goto (tgt := 32) hx hb dX3_isAlike_28 (by decide) ?_
        exact x_ret0z hx hb hr hlk hH (by exact b2i_1 (by omega)) dX3_isAlike_32

theorem hpX3_isZero : plainFor yX3_isZero = true := by decide +kernel
theorem hdX3_isZero : nMH yX3_isZero 1 := by decide +kernel
set_option maxHeartbeats 4000000 in
theorem c_X3_isZero (l : Launch) (G : GG) (H0 : Heap) (a : Row) (x : Nat) (ba : bRow a) (fa : RowAt G (x) (a) H0) : Ct0 l G yX3_isZero cX3_isZero 1 (Option.some Jvm.ClassFile.FieldType.boolean) 0 0 [.ref (x)] H0 (.int (iI (b2i (zeroR a)))) := by
  refine Ct0.start hpX3_isZero (Nat.le_of_ble_eq_true rfl) ?_
  intro p e s m below meth c ls hx hb hr S hlk hH hK hl
  have hl : lv_has ls 1 [(0, .ref (x))] := hl
  refine lv_aload_n hx hb dX3_isZero_0 rfl (lv_at hl 0 rfl) ?_
  refine xi_iconst hx hb dX3_isZero_1 ?_
  refine x_iald (w := (a).1) S hK fa (by omega) (by decide) rfl dX3_isZero_2 ?_
  refine xi_if_ne (tgt := 16) hx hb dX3_isZero_3 (by decide) (by omega) (fun c_3 => ?_) (fun c_3 => ?_)
  · skip
    refine xi_iconst hx hb dX3_isZero_16 ?_
    exact x_ret0z hx hb hr hlk hH (by exact b2i_0 (by omega)) dX3_isZero_17
  · skip
    refine lv_aload_n hx hb dX3_isZero_6 rfl (lv_at hl 0 rfl) ?_
    refine xi_iconst hx hb dX3_isZero_7 ?_
    refine x_iald (w := (a).2.1) S hK fa (by omega) (by decide) rfl dX3_isZero_8 ?_
    refine xi_if_ne (tgt := 16) hx hb dX3_isZero_9 (by decide) (by omega) (fun c_9 => ?_) (fun c_9 => ?_)
    · skip
      refine xi_iconst hx hb dX3_isZero_16 ?_
      exact x_ret0z hx hb hr hlk hH (by exact b2i_0 (by omega)) dX3_isZero_17
    · skip
      refine xi_iconst hx hb dX3_isZero_12 ?_
      refine lv_goto (tgt := 17) hx hb dX3_isZero_13 (by decide) ?_
      exact x_ret0z hx hb hr hlk hH (by exact b2i_1 (by omega)) dX3_isZero_17

theorem hpX3_key : plainFor yX3_key = true := by decide +kernel
theorem hdX3_key : nMH yX3_key 1 := by decide +kernel
set_option maxHeartbeats 4000000 in
theorem c_X3_key (l : Launch) (G : GG) (H0 : Heap) (a : Row) (x : Nat) (ba : bRow a) (fa : RowAt G (x) (a) H0) : Ct0 l G yX3_key cX3_key 1 (Option.some Jvm.ClassFile.FieldType.long) 0 0 [.ref (x)] H0 (.long (jI (keyR a))) := by
  refine Ct0.start hpX3_key (Nat.le_of_ble_eq_true rfl) ?_
  intro p e s m below meth c ls hx hb hr S hlk hH hK hl
  have hl : lv_has ls 1 [(0, .ref (x))] := hl
  refine lv_aload_n hx hb dX3_key_0 rfl (lv_at hl 0 rfl) ?_
  refine xi_iconst hx hb dX3_key_1 ?_
  refine x_iald (w := (a).1) S hK fa (by omega) (by decide) rfl dX3_key_2 ?_
  refine xi_iconst hx hb dX3_key_3 ?_
  refine xi_icmp_ne (tgt := 24) hx hb dX3_key_4 (by decide) (by omega) (by omega) (fun c_4 => ?_) (fun c_4 => ?_)
  · skip
    refine lv_aload_n hx hb dX3_key_24 rfl (lv_at hl 0 rfl) ?_
    refine xi_iconst hx hb dX3_key_25 ?_
    refine x_iald (w := (a).1) S hK fa (by omega) (by decide) rfl dX3_key_26 ?_
    refine xi_if_eq (tgt := 37) hx hb dX3_key_27 (by decide) (by omega) (fun c_27 => ?_) (fun c_27 => ?_)
    · skip
      refine lv_aload_n hx hb dX3_key_37 rfl (lv_at hl 0 rfl) ?_
      refine xi_iconst hx hb dX3_key_38 ?_
      refine x_iald (w := (a).2.1) S hK fa (by omega) (by decide) rfl dX3_key_39 ?_
      refine xi_i2l hx hb (by omega) dX3_key_40 ?_
      refine lv_aload_n hx hb dX3_key_41 rfl (lv_at hl 0 rfl) ?_
      refine xi_iconst hx hb dX3_key_42 ?_
      refine x_iald (w := (a).2.1) S hK fa (by omega) (by decide) rfl dX3_key_43 ?_
      refine xi_i2l hx hb (by omega) dX3_key_44 ?_
      refine xi_lmul hx hb dX3_key_45 ?_
      refine lv_aload_n hx hb dX3_key_46 rfl (lv_at hl 0 rfl) ?_
      refine xi_iconst hx hb dX3_key_47 ?_
      refine x_iald (w := (a).2.1) S hK fa (by omega) (by decide) rfl dX3_key_48 ?_
      refine xi_i2l hx hb (by omega) dX3_key_49 ?_
      refine xi_lmul hx hb dX3_key_50 ?_
      refine lv_goto (tgt := 62) hx hb dX3_key_51 (by decide) ?_
      exact x_ret0j hx hb hr hlk hH (by exact keyR_c (by omega)) dX3_key_62
    · skip
      refine lv_aload_n hx hb dX3_key_30 rfl (lv_at hl 0 rfl) ?_
      refine xi_iconst hx hb dX3_key_31 ?_
      refine x_iald (w := (a).1) S hK fa (by omega) (by decide) rfl dX3_key_32 ?_
      refine xi_iconst hx hb dX3_key_33 ?_
      refine xi_icmp_ne (tgt := 54) hx hb dX3_key_34 (by decide) (by omega) (by omega) (fun c_34 => ?_) (fun c_34 => ?_)
      · skip
        refine xi_ldc2 (z := 64) hx hb S.2.2.2.1 S.2.2.2.2 q1302 (by decide +kernel) dX3_key_54 ?_
        refine lv_aload_n hx hb dX3_key_57 rfl (lv_at hl 0 rfl) ?_
        refine xi_iconst hx hb dX3_key_58 ?_
        refine x_iald (w := (a).2.1) S hK fa (by omega) (by decide) rfl dX3_key_59 ?_
        refine xi_i2l hx hb (by omega) dX3_key_60 ?_
        refine xi_lmul hx hb dX3_key_61 ?_
        exact x_ret0j hx hb hr hlk hH (by exact keyR_l (by assumption) (by omega)) dX3_key_62
      · skip
        refine lv_aload_n hx hb dX3_key_37 rfl (lv_at hl 0 rfl) ?_
        refine xi_iconst hx hb dX3_key_38 ?_
        refine x_iald (w := (a).2.1) S hK fa (by omega) (by decide) rfl dX3_key_39 ?_
        refine xi_i2l hx hb (by omega) dX3_key_40 ?_
        refine lv_aload_n hx hb dX3_key_41 rfl (lv_at hl 0 rfl) ?_
        refine xi_iconst hx hb dX3_key_42 ?_
        refine x_iald (w := (a).2.1) S hK fa (by omega) (by decide) rfl dX3_key_43 ?_
        refine xi_i2l hx hb (by omega) dX3_key_44 ?_
        refine xi_lmul hx hb dX3_key_45 ?_
        refine lv_aload_n hx hb dX3_key_46 rfl (lv_at hl 0 rfl) ?_
        refine xi_iconst hx hb dX3_key_47 ?_
        refine x_iald (w := (a).2.1) S hK fa (by omega) (by decide) rfl dX3_key_48 ?_
        refine xi_i2l hx hb (by omega) dX3_key_49 ?_
        refine xi_lmul hx hb dX3_key_50 ?_
        refine lv_goto (tgt := 62) hx hb dX3_key_51 (by decide) ?_
        exact x_ret0j hx hb hr hlk hH (by exact keyR_c (by omega)) dX3_key_62
  · skip
    refine lv_aload_n hx hb dX3_key_7 rfl (lv_at hl 0 rfl) ?_
    refine xi_iconst hx hb dX3_key_8 ?_
    refine x_iald (w := (a).2.2) S hK fa (by omega) (by decide) rfl dX3_key_9 ?_
    refine xi_iconst hx hb dX3_key_10 ?_
    refine xi_icmp_ne (tgt := 20) hx hb dX3_key_11 (by decide) (by omega) (by omega) (fun c_11 => ?_) (fun c_11 => ?_)
    · skip
      refine xi_ldc2 (z := 9223372036854775807) hx hb S.2.2.2.1 S.2.2.2.2 q1301 (by decide +kernel) dX3_key_20 ?_
      exact x_ret0j hx hb hr hlk hH (by exact keyR_1' (by assumption) (by assumption)) dX3_key_23
    · skip
      refine xi_ldc2 (z := -9223372036854775808) hx hb S.2.2.2.1 S.2.2.2.2 q1300 (by decide +kernel) dX3_key_14 ?_
      refine lv_goto (tgt := 23) hx hb dX3_key_17 (by decide) ?_
      exact x_ret0j hx hb hr hlk hH (by exact keyR_1 (by assumption) (by assumption)) dX3_key_23

theorem hpX3_isNear : plainFor yX3_isNear = true := by decide +kernel
theorem hdX3_isNear : nMH yX3_isNear 2 := by decide +kernel
set_option maxHeartbeats 4000000 in
theorem c_X3_isNear (l : Launch) (G : GG) (H0 : Heap) (a : Row) (b : Row) (x : Nat) (y : Nat) (ba : bRow a) (bb : bRow b) (fa : RowAt G (x) (a) H0) (fb : RowAt G (y) (b) H0) : Ct0 l G yX3_isNear cX3_isNear 2 (Option.some Jvm.ClassFile.FieldType.boolean) 1 20 [.ref (x), .ref (y)] H0 (.int (iI (b2i (nearR a b)))) := by
  refine Ct0.start hpX3_isNear (Nat.le_of_ble_eq_true rfl) ?_
  intro p e s m below meth c ls hx hb hr S hlk hH hK hl
  have hl : lv_has ls 2 [(0, .ref (x)), (1, .ref (y))] := hl
  have k1_ := keyR_r ba
  have k2_ := keyR_r bb
  refine lv_aload_n hx hb dX3_isNear_0 rfl (lv_at hl 0 rfl) ?_
  refine xi_iconst hx hb dX3_isNear_1 ?_
  refine x_iald (w := (a).1) S hK fa (by omega) (by decide) rfl dX3_isNear_2 ?_
  refine lv_aload_n hx hb dX3_isNear_3 rfl (lv_at hl 1 rfl) ?_
  refine xi_iconst hx hb dX3_isNear_4 ?_
  refine x_iald (w := (b).1) S hK fb (by omega) (by decide) rfl dX3_isNear_5 ?_
  refine xi_icmp_eq (tgt := 39) hx hb dX3_isNear_6 (by decide) (by omega) (by omega) (fun c_6 => ?_) (fun c_6 => ?_)
  · skip
    refine xi_iconst hx hb dX3_isNear_39 ?_
    exact x_ret0z hx hb hr hlk hH (by exact b2i_0 (by omega)) dX3_isNear_40
  · skip
    refine lv_aload_n hx hb dX3_isNear_9 rfl (lv_at hl 0 rfl) ?_
    refine xi_iconst hx hb dX3_isNear_10 ?_
    refine x_iald (w := (a).1) S hK fa (by omega) (by decide) rfl dX3_isNear_11 ?_
    refine xi_iconst hx hb dX3_isNear_12 ?_
    refine xi_icmp_eq (tgt := 39) hx hb dX3_isNear_13 (by decide) (by omega) (by omega) (fun c_13 => ?_) (fun c_13 => ?_)
    · skip
      refine xi_iconst hx hb dX3_isNear_39 ?_
      exact x_ret0z hx hb hr hlk hH (by exact b2i_0 (by omega)) dX3_isNear_40
    · skip
      refine lv_aload_n hx hb dX3_isNear_16 rfl (lv_at hl 1 rfl) ?_
      refine xi_iconst hx hb dX3_isNear_17 ?_
      refine x_iald (w := (b).1) S hK fb (by omega) (by decide) rfl dX3_isNear_18 ?_
      refine xi_iconst hx hb dX3_isNear_19 ?_
      refine xi_icmp_eq (tgt := 39) hx hb dX3_isNear_20 (by decide) (by omega) (by omega) (fun c_20 => ?_) (fun c_20 => ?_)
      · skip
        refine xi_iconst hx hb dX3_isNear_39 ?_
        exact x_ret0z hx hb hr hlk hH (by exact b2i_0 (by omega)) dX3_isNear_40
      · skip
        refine lv_aload_n hx hb dX3_isNear_23 rfl (lv_at hl 0 rfl) ?_
        refine x_c0S (as := [.ref (x)]) (rest := []) S hK (c_X3_key l G H0 (a) (x) (by first | assumption | (apply hbc; omega)) fa) q1297 q1298 q43 q1299 hdX3_key ⟨by decide, by decide⟩ hl.1 rfl rfl (Nat.le_of_ble_eq_true rfl) ⟨Nat.le_of_ble_eq_true rfl, Nat.le_of_ble_eq_true rfl⟩ dX3_isNear_24 ?_
        refine lv_aload_n hx hb dX3_isNear_27 rfl (lv_at hl 1 rfl) ?_
        refine x_c0S (as := [.ref (y)]) (rest := [.long (jI (keyR (a)))]) S hK (c_X3_key l G H0 (b) (y) (by first | assumption | (apply hbc; omega)) fb) q1297 q1298 q43 q1299 hdX3_key ⟨by decide, by decide⟩ hl.1 rfl rfl (Nat.le_of_ble_eq_true rfl) ⟨Nat.le_of_ble_eq_true rfl, Nat.le_of_ble_eq_true rfl⟩ dX3_isNear_28 ?_
        refine xi_lcmp hx hb (by omega) (by omega) dX3_isNear_31 ?_
        refine xi_ifz_ne (tgt := 39) hx hb dX3_isNear_32 (by decide) (fun c_32 => ?_) (fun c_32 => ?_)
        · skip
          refine xi_iconst hx hb dX3_isNear_39 ?_
          exact x_ret0z hx hb hr hlk hH (by exact b2i_0 (by omega)) dX3_isNear_40
        · skip
          refine xi_iconst hx hb dX3_isNear_35 ?_
          refine lv_goto (tgt := 40) hx hb dX3_isNear_36 (by decide) ?_
          exact x_ret0z hx hb hr hlk hH (by exact b2i_1 (by omega)) dX3_isNear_40

theorem hpX3_isAhead : plainFor yX3_isAhead = true := by decide +kernel
theorem hdX3_isAhead : nMH yX3_isAhead 2 := by decide +kernel
set_option maxHeartbeats 4000000 in
theorem c_X3_isAhead (l : Launch) (G : GG) (H0 : Heap) (a : Row) (b : Row) (x : Nat) (y : Nat) (ba : bRow a) (bb : bRow b) (fa : RowAt G (x) (a) H0) (fb : RowAt G (y) (b) H0) : Ct0 l G yX3_isAhead cX3_isAhead 2 (Option.some Jvm.ClassFile.FieldType.boolean) 1 20 [.ref (x), .ref (y)] H0 (.int (iI (b2i (aheadR a b)))) := by
  refine Ct0.start hpX3_isAhead (Nat.le_of_ble_eq_true rfl) ?_
  intro p e s m below meth c ls hx hb hr S hlk hH hK hl
  have hl : lv_has ls 2 [(0, .ref (x)), (1, .ref (y))] := hl
  have k1_ := keyR_r ba
  have k2_ := keyR_r bb
  refine lv_aload_n hx hb dX3_isAhead_0 rfl (lv_at hl 0 rfl) ?_
  refine x_c0S (as := [.ref (x)]) (rest := []) S hK (c_X3_isZero l G H0 (a) (x) (by first | assumption | (apply hbc; omega)) fa) q1248 q1249 q43 q1250 hdX3_isZero ⟨by decide, by decide⟩ hl.1 rfl rfl (Nat.le_of_ble_eq_true rfl) ⟨Nat.le_of_ble_eq_true rfl, Nat.le_of_ble_eq_true rfl⟩ dX3_isAhead_1 ?_
  refine xi_ifb_eq (tgt := 29) hx hb dX3_isAhead_4 (by decide) (fun c_4 => ?_) (fun c_4 => ?_)
  · skip
    refine lv_aload_n hx hb dX3_isAhead_29 rfl (lv_at hl 0 rfl) ?_
    refine x_c0S (as := [.ref (x)]) (rest := []) S hK (c_X3_key l G H0 (a) (x) (by first | assumption | (apply hbc; omega)) fa) q1297 q1298 q43 q1299 hdX3_key ⟨by decide, by decide⟩ hl.1 rfl rfl (Nat.le_of_ble_eq_true rfl) ⟨Nat.le_of_ble_eq_true rfl, Nat.le_of_ble_eq_true rfl⟩ dX3_isAhead_30 ?_
    refine lv_aload_n hx hb dX3_isAhead_33 rfl (lv_at hl 1 rfl) ?_
    refine x_c0S (as := [.ref (y)]) (rest := [.long (jI (keyR (a)))]) S hK (c_X3_key l G H0 (b) (y) (by first | assumption | (apply hbc; omega)) fb) q1297 q1298 q43 q1299 hdX3_key ⟨by decide, by decide⟩ hl.1 rfl rfl (Nat.le_of_ble_eq_true rfl) ⟨Nat.le_of_ble_eq_true rfl, Nat.le_of_ble_eq_true rfl⟩ dX3_isAhead_34 ?_
    refine xi_lcmp hx hb (by omega) (by omega) dX3_isAhead_37 ?_
    refine xi_ifz_ge (tgt := 45) hx hb dX3_isAhead_38 (by decide) (fun c_38 => ?_) (fun c_38 => ?_)
    · skip
      refine xi_iconst hx hb dX3_isAhead_45 ?_
      exact x_ret0z hx hb hr hlk hH (by exact b2i_0 (by omega)) dX3_isAhead_46
    · skip
      refine xi_iconst hx hb dX3_isAhead_41 ?_
      refine lv_goto (tgt := 46) hx hb dX3_isAhead_42 (by decide) ?_
      exact x_ret0z hx hb hr hlk hH (by exact b2i_1 (by omega)) dX3_isAhead_46
  · skip
    refine lv_aload_n hx hb dX3_isAhead_7 rfl (lv_at hl 1 rfl) ?_
    refine x_c0S (as := [.ref (y)]) (rest := []) S hK (c_X3_isZero l G H0 (b) (y) (by first | assumption | (apply hbc; omega)) fb) q1248 q1249 q43 q1250 hdX3_isZero ⟨by decide, by decide⟩ hl.1 rfl rfl (Nat.le_of_ble_eq_true rfl) ⟨Nat.le_of_ble_eq_true rfl, Nat.le_of_ble_eq_true rfl⟩ dX3_isAhead_8 ?_
    refine xi_ifb_eq (tgt := 29) hx hb dX3_isAhead_11 (by decide) (fun c_11 => ?_) (fun c_11 => ?_)
    · skip
      refine lv_aload_n hx hb dX3_isAhead_29 rfl (lv_at hl 0 rfl) ?_
      refine x_c0S (as := [.ref (x)]) (rest := []) S hK (c_X3_key l G H0 (a) (x) (by first | assumption | (apply hbc; omega)) fa) q1297 q1298 q43 q1299 hdX3_key ⟨by decide, by decide⟩ hl.1 rfl rfl (Nat.le_of_ble_eq_true rfl) ⟨Nat.le_of_ble_eq_true rfl, Nat.le_of_ble_eq_true rfl⟩ dX3_isAhead_30 ?_
      refine lv_aload_n hx hb dX3_isAhead_33 rfl (lv_at hl 1 rfl) ?_
      refine x_c0S (as := [.ref (y)]) (rest := [.long (jI (keyR (a)))]) S hK (c_X3_key l G H0 (b) (y) (by first | assumption | (apply hbc; omega)) fb) q1297 q1298 q43 q1299 hdX3_key ⟨by decide, by decide⟩ hl.1 rfl rfl (Nat.le_of_ble_eq_true rfl) ⟨Nat.le_of_ble_eq_true rfl, Nat.le_of_ble_eq_true rfl⟩ dX3_isAhead_34 ?_
      refine xi_lcmp hx hb (by omega) (by omega) dX3_isAhead_37 ?_
      refine xi_ifz_ge (tgt := 45) hx hb dX3_isAhead_38 (by decide) (fun c_38 => ?_) (fun c_38 => ?_)
      · skip
        refine xi_iconst hx hb dX3_isAhead_45 ?_
        exact x_ret0z hx hb hr hlk hH (by exact b2i_0 (by omega)) dX3_isAhead_46
      · skip
        refine xi_iconst hx hb dX3_isAhead_41 ?_
        refine lv_goto (tgt := 46) hx hb dX3_isAhead_42 (by decide) ?_
        exact x_ret0z hx hb hr hlk hH (by exact b2i_1 (by omega)) dX3_isAhead_46
    · skip
      refine lv_aload_n hx hb dX3_isAhead_14 rfl (lv_at hl 0 rfl) ?_
      refine xi_iconst hx hb dX3_isAhead_15 ?_
      refine x_iald (w := (a).2.2) S hK fa (by omega) (by decide) rfl dX3_isAhead_16 ?_
      refine lv_aload_n hx hb dX3_isAhead_17 rfl (lv_at hl 1 rfl) ?_
      refine xi_iconst hx hb dX3_isAhead_18 ?_
      refine x_iald (w := (b).2.2) S hK fb (by omega) (by decide) rfl dX3_isAhead_19 ?_
      refine xi_icmp_le (tgt := 27) hx hb dX3_isAhead_20 (by decide) (by omega) (by omega) (fun c_20 => ?_) (fun c_20 => ?_)
      · skip
        refine xi_iconst hx hb dX3_isAhead_27 ?_
        exact x_ret0z hx hb hr hlk hH (by exact b2i_0 (by omega)) dX3_isAhead_28
      · skip
        refine xi_iconst hx hb dX3_isAhead_23 ?_
        refine lv_goto (tgt := 28) hx hb dX3_isAhead_24 (by decide) ?_
        exact x_ret0z hx hb hr hlk hH (by exact b2i_1 (by omega)) dX3_isAhead_28

theorem hpX3_ofTold : plainFor yX3_ofTold = true := by decide +kernel
theorem hdX3_ofTold : nMH yX3_ofTold 1 := by decide +kernel
set_option maxHeartbeats 4000000 in
theorem c_X3_ofTold (l : Launch) (G : GG) (H0 : Heap) (a : Row) (x : Nat) (ba : bRow a) (fa : RowAt G (x) (a) H0) : Ct0 l G yX3_ofTold cX3_ofTold 1 (Option.some Jvm.ClassFile.FieldType.int) 0 0 [.ref (x)] H0 (.int (iI (ofR a))) := by
  refine Ct0.start hpX3_ofTold (Nat.le_of_ble_eq_true rfl) ?_
  intro p e s m below meth c ls hx hb hr S hlk hH hK hl
  have hl : lv_has ls 1 [(0, .ref (x))] := hl
  refine lv_aload_n hx hb dX3_ofTold_0 rfl (lv_at hl 0 rfl) ?_
  refine xi_iconst hx hb dX3_ofTold_1 ?_
  refine x_iald (w := (a).1) S hK fa (by omega) (by decide) rfl dX3_ofTold_2 ?_
  refine xi_iconst hx hb dX3_ofTold_3 ?_
  refine xi_icmp_ne (tgt := 24) hx hb dX3_ofTold_4 (by decide) (by omega) (by omega) (fun c_4 => ?_) (fun c_4 => ?_)
  · skip
    refine lv_aload_n hx hb dX3_ofTold_24 rfl (lv_at hl 0 rfl) ?_
    refine xi_iconst hx hb dX3_ofTold_25 ?_
    refine x_iald (w := (a).2.1) S hK fa (by omega) (by decide) rfl dX3_ofTold_26 ?_
    exact x_ret0i hx hb hr hlk hH (by unfold ofR; (repeat (first | with_reducible refine ifp (by omega) ?_ | with_reducible refine ifn (by omega) ?_)); rfl) dX3_ofTold_27
  · skip
    refine lv_aload_n hx hb dX3_ofTold_7 rfl (lv_at hl 0 rfl) ?_
    refine xi_iconst hx hb dX3_ofTold_8 ?_
    refine x_iald (w := (a).2.2) S hK fa (by omega) (by decide) rfl dX3_ofTold_9 ?_
    refine xi_iconst hx hb dX3_ofTold_10 ?_
    refine xi_icmp_ne (tgt := 19) hx hb dX3_ofTold_11 (by decide) (by omega) (by omega) (fun c_11 => ?_) (fun c_11 => ?_)
    · skip
      refine xi_ldc (z := 1000000) hx hb S.2.2.2.1 S.2.2.2.2 q1257 (by decide +kernel) dX3_ofTold_19 ?_
      refine lv_goto (tgt := 27) hx hb dX3_ofTold_21 (by decide) ?_
      exact x_ret0i hx hb hr hlk hH (by unfold ofR; (repeat (first | with_reducible refine ifp (by omega) ?_ | with_reducible refine ifn (by omega) ?_)); rfl) dX3_ofTold_27
    · skip
      refine xi_ldc (z := -1000000) hx hb S.2.2.2.1 S.2.2.2.2 q1318 (by decide +kernel) dX3_ofTold_14 ?_
      refine lv_goto (tgt := 27) hx hb dX3_ofTold_16 (by decide) ?_
      exact x_ret0i hx hb hr hlk hH (by unfold ofR; (repeat (first | with_reducible refine ifp (by omega) ?_ | with_reducible refine ifn (by omega) ?_)); rfl) dX3_ofTold_27

theorem hpX3_made : plainFor yX3_made = true := by decide +kernel
theorem hdX3_made : nMH yX3_made 2 := by decide +kernel
set_option maxHeartbeats 4000000 in
theorem c_X3_made (l : Launch) (G : GG) (H0 : Heap) (k : Int) (t : Int) (r_k : -2147483648 ≤ k ∧ k < 2147483648) (r_t : -2147483648 ≤ t ∧ t < 2147483648) : Ct1 l G yX3_made cX3_made 2 (Option.some (Jvm.ClassFile.FieldType.array Jvm.ClassFile.FieldType.int)) 1 1 3 20 [.int (iI (k)), .int (iI (t))] H0 (noW) (fun (rv : Option Value) (H1 : Heap) => ∃ q : Nat, rv = some (.ref q) ∧ RowAt G q (mk (k) (t)) H1) := by
  refine Ct1.start hpX3_made (Nat.le_of_ble_eq_true rfl) ?_
  intro p e s m below meth c ls hx hb hr S hlk hname hH hK hS hl
  have hl : lv_has ls 2 [(0, .int (iI (k))), (1, .int (iI (t)))] := hl
  have kw : Keep (noW) H0 H0 := Keep.rf
  have hz0 := hK.2.2.1
  refine xi_iconst hx hb dX3_made_0 ?_
  refine x_newai S hK q1164 (by omega) ⟨Nat.le_of_ble_eq_true rfl, Nat.le_of_ble_eq_true rfl⟩ hS dX3_made_1 (fun a_n_1 H_n_1 ha_n_1 hq_n_1 k_n_1 hS => ?_)
  have hge_n_1 : H0.size ≤ a_n_1 := by rw [ha_n_1]; exact kw.1
  have kb_n_1 : Keep noW H0 H0 := Keep.rf
  have kw := kw.trans k_n_1
  have hK := hK.ext k_n_1
  have kb_n_1 := kb_n_1.trans k_n_1
  have hq_n_1 : IArr G a_n_1 3 (fun _ => 0) H_n_1 := hq_n_1
  refine lv_dup hx hb dX3_made_3 rfl ?_
  refine xi_iconst hx hb dX3_made_4 ?_
  refine lv_iload_n hx hb dX3_made_5 rfl (lv_at hl 0 rfl) ?_
  refine x_iast S hK hq_n_1 (by omega) (by omega) hS (Or.inr (by omega)) dX3_made_6 (fun H_s_2 locs hq_s_2 k_s_2 hz_s_2 hS => ?_)
  have kw := kw.then k_s_2 (fun q e hlt => by have e : q = a_n_1 := e; exact absurd hlt (by omega))
  have hK := hK.keep k_s_2 (fun q e => by have e : q = a_n_1 := e; omega)
  have kb_n_1 := kb_n_1.then k_s_2 (fun q e hlt => by have e : q = a_n_1 := e; exact absurd hlt (by omega))
  have hq_n_1 : IArr G a_n_1 3 (upd (fun _ => 0) (0 : Int).toNat (iI (k))) H_s_2 := hq_s_2
  refine lv_dup hx hb dX3_made_7 rfl ?_
  refine xi_iconst hx hb dX3_made_8 ?_
  refine lv_iload_n hx hb dX3_made_9 rfl (lv_at hl 1 rfl) ?_
  refine x_iast S hK hq_n_1 (by omega) (by omega) hS (Or.inr (by omega)) dX3_made_10 (fun H_s_3 locs hq_s_3 k_s_3 hz_s_3 hS => ?_)
  have kw := kw.then k_s_3 (fun q e hlt => by have e : q = a_n_1 := e; exact absurd hlt (by omega))
  have hK := hK.keep k_s_3 (fun q e => by have e : q = a_n_1 := e; omega)
  have kb_n_1 := kb_n_1.then k_s_3 (fun q e hlt => by have e : q = a_n_1 := e; exact absurd hlt (by omega))
  have hq_n_1 : IArr G a_n_1 3 (upd (upd (fun _ => 0) (0 : Int).toNat (iI (k))) (1 : Int).toNat (iI (t))) H_s_3 := hq_s_3
  refine lv_dup hx hb dX3_made_11 rfl ?_
  refine xi_iconst hx hb dX3_made_12 ?_
  refine lv_iload_n hx hb dX3_made_13 rfl (lv_at hl 1 rfl) ?_
  refine xi_if_ge (tgt := 21) hx hb dX3_made_14 (by decide) (by omega) (fun c_14 => ?_) (fun c_14 => ?_)
  · skip
    refine xi_iconst hx hb dX3_made_21 ?_
    refine x_c0S (as := [.int (iI (0))]) (rest := [.int (iI (2)), .ref (a_n_1), .ref (a_n_1)]) S hK (c_X3_one l G H_s_3 (False)  ) q1145 q1146 q43 q1147 hdX3_one ⟨by decide, by decide⟩ hl.1 rfl rfl (Nat.le_of_ble_eq_true rfl) ⟨Nat.le_of_ble_eq_true rfl, Nat.le_of_ble_eq_true rfl⟩ dX3_made_22 ?_
    refine x_iast S hK hq_n_1 (by omega) (by omega) hS (Or.inr (by omega)) dX3_made_25 (fun H_s_4 locs hq_s_4 k_s_4 hz_s_4 hS => ?_)
    have kw := kw.then k_s_4 (fun q e hlt => by have e : q = a_n_1 := e; exact absurd hlt (by omega))
    have hK := hK.keep k_s_4 (fun q e => by have e : q = a_n_1 := e; omega)
    have kb_n_1 := kb_n_1.then k_s_4 (fun q e hlt => by have e : q = a_n_1 := e; exact absurd hlt (by omega))
    have hq_n_1 : IArr G a_n_1 3 (upd (upd (upd (fun _ => 0) (0 : Int).toNat (iI (k))) (1 : Int).toNat (iI (t))) (2 : Int).toNat (iI (b2i (False)))) H_s_4 := hq_s_4
    have hq_n_1 : RowAt G a_n_1 (k, t, b2i (False)) H_s_4 := row_of hq_n_1
    refine x_ret1a hx hb hr hlk hH hS (by omega) (by omega) (Or.inr ⟨_, rfl⟩) ?_ dX3_made_26
    have eb_ : b2i (t < 0) = b2i (False) := (b2i_0 (by omega)).trans (b2i_0 id).symm
    exact ⟨_, rfl, by show RowAt G _ (k, t, b2i (t < 0)) _; rw [eb_]; exact hq_n_1⟩
  · skip
    refine xi_iconst hx hb dX3_made_17 ?_
    refine lv_goto (tgt := 22) hx hb dX3_made_18 (by decide) ?_
    refine x_c0S (as := [.int (iI (1))]) (rest := [.int (iI (2)), .ref (a_n_1), .ref (a_n_1)]) S hK (c_X3_one l G H_s_3 (True)  ) q1145 q1146 q43 q1147 hdX3_one ⟨by decide, by decide⟩ hl.1 rfl rfl (Nat.le_of_ble_eq_true rfl) ⟨Nat.le_of_ble_eq_true rfl, Nat.le_of_ble_eq_true rfl⟩ dX3_made_22 ?_
    refine x_iast S hK hq_n_1 (by omega) (by omega) hS (Or.inr (by omega)) dX3_made_25 (fun H_s_5 locs hq_s_5 k_s_5 hz_s_5 hS => ?_)
    have kw := kw.then k_s_5 (fun q e hlt => by have e : q = a_n_1 := e; exact absurd hlt (by omega))
    have hK := hK.keep k_s_5 (fun q e => by have e : q = a_n_1 := e; omega)
    have kb_n_1 := kb_n_1.then k_s_5 (fun q e hlt => by have e : q = a_n_1 := e; exact absurd hlt (by omega))
    have hq_n_1 : IArr G a_n_1 3 (upd (upd (upd (fun _ => 0) (0 : Int).toNat (iI (k))) (1 : Int).toNat (iI (t))) (2 : Int).toNat (iI (b2i (True)))) H_s_5 := hq_s_5
    have hq_n_1 : RowAt G a_n_1 (k, t, b2i (True)) H_s_5 := row_of hq_n_1
    refine x_ret1a hx hb hr hlk hH hS (by omega) (by omega) (Or.inr ⟨_, rfl⟩) ?_ dX3_made_26
    have eb_ : b2i (t < 0) = b2i (True) := (b2i_1 (by omega)).trans (b2i_1 trivial).symm
    exact ⟨_, rfl, by show RowAt G _ (k, t, b2i (t < 0)) _; rw [eb_]; exact hq_n_1⟩

theorem hpX3_exact : plainFor yX3_exact = true := by decide +kernel
theorem hdX3_exact : nMH yX3_exact 1 := by decide +kernel
set_option maxHeartbeats 4000000 in
theorem c_X3_exact (l : Launch) (G : GG) (H0 : Heap) (t : Int) (r_t : -2147483648 ≤ t ∧ t < 2147483648) : Ct1 l G yX3_exact cX3_exact 1 (Option.some (Jvm.ClassFile.FieldType.array Jvm.ClassFile.FieldType.int)) 2 1 3 41 [.int (iI (t))] H0 (noW) (fun (rv : Option Value) (H1 : Heap) => ∃ q : Nat, rv = some (.ref q) ∧ RowAt G q (mk 0 (t)) H1) := by
  refine Ct1.start hpX3_exact (Nat.le_of_ble_eq_true rfl) ?_
  intro p e s m below meth c ls hx hb hr S hlk hname hH hK hS hl
  have hl : lv_has ls 1 [(0, .int (iI (t)))] := hl
  have kw : Keep (noW) H0 H0 := Keep.rf
  have hz0 := hK.2.2.1
  refine xi_iconst hx hb dX3_exact_0 ?_
  refine lv_iload_n hx hb dX3_exact_1 rfl (lv_at hl 0 rfl) ?_
  refine x_c1S (as := [.int (iI (0)), .int (iI (t))]) (rest := []) S hK (c_X3_made l G H0 (0) (t) (by omega) (by omega) ) q1142 q1143 q43 q1144 hdX3_made ⟨by decide, by decide⟩ hl.1 rfl rfl (Nat.le_of_ble_eq_true rfl) ⟨Nat.le_of_ble_eq_true rfl, Nat.le_of_ble_eq_true rfl⟩ hS (fun _ z => z.elim) (fun q z => Or.inr z) dX3_exact_2 (fun rv_c_1 H_c_1 locs hp_c_1 k_c_1 hS => ?_)
  have kw := kw.trans k_c_1
  have hK := hK.ext k_c_1
  obtain ⟨a_r_2, rfl, hq_r_2⟩ := hp_c_1
  refine W.eq (g2 := F0 m 5 ls [.ref (a_r_2)]) rfl ?_
  refine x_ret1a hx hb hr hlk hH hS (by omega) (by omega) (Or.inr ⟨_, rfl⟩) ?_ dX3_exact_5
  exact ⟨_, rfl, hq_r_2⟩

theorem hpX3_rootOf : plainFor yX3_rootOf = true := by decide +kernel
theorem hdX3_rootOf : nMH yX3_rootOf 1 := by decide +kernel
set_option maxHeartbeats 4000000 in
theorem c_X3_rootOf (l : Launch) (G : GG) (H0 : Heap) (t : Int) (r_t : -2147483648 ≤ t ∧ t < 2147483648) : Ct0 l G yX3_rootOf cX3_rootOf 2 (Option.some Jvm.ClassFile.FieldType.int) 0 0 [.int (iI (t))] H0 (.int (iI (rootZ t))) := by
  refine Ct0.start hpX3_rootOf (Nat.le_of_ble_eq_true rfl) ?_
  intro p e s m below meth c ls hx hb hr S hlk hH hK hl
  have hl : lv_has ls 2 [(0, .int (iI (t)))] := hl
  have L_3 : ∀ (n_ : Nat) (a : Int) (h1 : -80 ≤ a ∧ a ≤ 81) (h2 : ∀ b : Int, -80 ≤ b → b < a → b * b * b ≠ t)  (hm_ : ((81 : Int) - a).toNat < n_) (ls : Array Slot) (hl : lv_has ls 2 [(1, .int (iI (a))), (0, .int (iI (t)))]), W p l e { frames := 0, cells := 0, slots := 0, locals := 0 } s m ([.int (iI (t))] : List Value).toArray below meth c H0 [] 0 0 (MQ below (k2_QcV (.int (iI (rootZ t)))) ([.int (iI (t))] : List Value).toArray s 0 0 (fun _ => False)) (F0 m 3 ls []) := by
    intro n_
    induction n_ with
    | zero =>
      intro a h1 h2 hm_ ls hl
      exact absurd hm_ (Nat.not_lt_zero _)
    | succ n_ ih =>
      intro a h1 h2 hm_ ls hl
      refine lv_iload_n hx hb dX3_rootOf_3 rfl (lv_at hl 0 rfl) ?_
      refine xi_bipush hx hb (by decide) dX3_rootOf_4 ?_
      refine xi_icmp_gt (tgt := 26) hx hb dX3_rootOf_6 (by decide) (by omega) (by omega) (fun c_6 => ?_) (fun c_6 => ?_)
      · skip
        refine xi_ldc (z := 1000000) hx hb S.2.2.2.1 S.2.2.2.2 q1257 (by decide +kernel) dX3_rootOf_26 ?_
        exact x_ret0i hx hb hr hlk hH (by exact rootZ_none (fun b b1 b2 => h2 b b1 (by omega))) dX3_rootOf_28
      · skip
        refine lv_iload_n hx hb dX3_rootOf_9 rfl (lv_at hl 0 rfl) ?_
        refine lv_iload_n hx hb dX3_rootOf_10 rfl (lv_at hl 0 rfl) ?_
        refine xi_imul hx hb dX3_rootOf_11 ?_
        refine lv_iload_n hx hb dX3_rootOf_12 rfl (lv_at hl 0 rfl) ?_
        refine xi_imul hx hb dX3_rootOf_13 ?_
        refine xi_name (fun cu e_cu => ?_)
        have cu_ := cubeB (a := a) (A := 81) (by omega)
        have hcu : cu = a * a * a := e_cu
        refine lv_iload_n hx hb dX3_rootOf_14 rfl (lv_at hl 1 rfl) ?_
        refine xi_icmp_ne (tgt := 20) hx hb dX3_rootOf_15 (by decide) (by omega) (by omega) (fun c_15 => ?_) (fun c_15 => ?_)
        · skip
          refine xi_iinc (lv' := [(1, .int (iI (a + 1))), (0, .int (iI (t)))]) hx hb dX3_rootOf_20 hl (k := 0) rfl (by decide) rfl (fun ls hl => ?_)
          refine lv_goto (tgt := 3) hx hb dX3_rootOf_23 (by decide) ?_
          exact ih (a + 1) (by omega) (by (intro b b1 b2 b3; first | exact absurd b2 (by omega) | (rcases Int.lt_or_le b a with b4 | b4; exact h2 b b1 b4 b3; have b5 : b = a := (by omega); rw [b5] at b3; omega))) (by omega) ls (lv_sub hl [0, 1] rfl)
        · skip
          refine lv_iload_n hx hb dX3_rootOf_18 rfl (lv_at hl 0 rfl) ?_
          exact x_ret0i hx hb hr hlk hH (by exact rootZ_some (by omega) (by omega)) dX3_rootOf_19
  refine xi_bipush hx hb (by decide) dX3_rootOf_0 ?_
  refine lv_istore_n (lv' := [(1, .int (iI (-80))), (0, .int (iI (t)))]) hx hb dX3_rootOf_2 rfl hl (by decide) rfl (fun ls hl => ?_)
  exact L_3 ((((81 : Int) - (-80)).toNat) + 1) (-80) (by omega) (by (intro b b1 b2 b3; first | exact absurd b2 (by omega) | (rcases Int.lt_or_le b a with b4 | b4; exact h2 b b1 b4 b3; have b5 : b = a := (by omega); rw [b5] at b3; omega))) (by omega) ls (lv_sub hl [0, 1] rfl)

theorem hpX3_ifOfSet : plainFor yX3_ifOfSet = true := by decide +kernel
theorem hdX3_ifOfSet : nMH yX3_ifOfSet 2 := by decide +kernel
set_option maxHeartbeats 4000000 in
theorem c_X3_ifOfSet (l : Launch) (G : GG) (H0 : Heap) (k : Int) (t : Int) (r_k : -2147483648 ≤ k ∧ k < 2147483648) (r_t : -9223372036854775808 ≤ t ∧ t < 9223372036854775808) : Ct1 l G yX3_ifOfSet cX3_ifOfSet 3 (Option.some (Jvm.ClassFile.FieldType.array Jvm.ClassFile.FieldType.int)) 2 1 3 46 [.int (iI (k)), .long (jI (t))] H0 (noW) (fun (rv : Option Value) (H1 : Heap) => RowO G (ifSet k t) rv H1) := by
  refine Ct1.start hpX3_ifOfSet (Nat.le_of_ble_eq_true rfl) ?_
  intro p e s m below meth c ls hx hb hr S hlk hname hH hK hS hl
  have hl : lv_has ls 3 [(0, .int (iI (k))), (1, .long (jI (t)))] := hl
  have kw : Keep (noW) H0 H0 := Keep.rf
  have hz0 := hK.2.2.1
  refine lv_lload_n hx hb dX3_ifOfSet_0 rfl (lv_at hl 1 rfl) ?_
  refine x_c0S (as := [.long (jI (t))]) (rest := []) S hK (c_X3_isOfSet l G H0 (t) (by omega) ) q1227 q1228 q43 q1229 hdX3_isOfSet ⟨by decide, by decide⟩ hl.1 rfl rfl (Nat.le_of_ble_eq_true rfl) ⟨Nat.le_of_ble_eq_true rfl, Nat.le_of_ble_eq_true rfl⟩ dX3_ifOfSet_1 ?_
  refine xi_ifb_eq (tgt := 16) hx hb dX3_ifOfSet_4 (by decide) (fun c_4 => ?_) (fun c_4 => ?_)
  · skip
    refine lv_null hx hb dX3_ifOfSet_16 ?_
    refine x_ret1N hx hb hr hlk hH hS (by omega) (by omega) (Or.inr ⟨_, rfl⟩) ?_ dX3_ifOfSet_17
    exact RowO.n (by unfold ifSet; (repeat (first | with_reducible refine ifp (by omega) ?_ | with_reducible refine ifn (by omega) ?_)); first | rfl | ((repeat' split) <;> first | omega | rfl))
  · skip
    refine lv_iload_n hx hb dX3_ifOfSet_7 rfl (lv_at hl 0 rfl) ?_
    refine lv_lload_n hx hb dX3_ifOfSet_8 rfl (lv_at hl 1 rfl) ?_
    refine xi_l2i hx hb dX3_ifOfSet_9 ?_
    refine x_c1S (as := [.int (iI (k)), .int (iI (t))]) (rest := []) S hK (c_X3_made l G H0 (k) (t) (by omega) (by omega) ) q1142 q1143 q43 q1144 hdX3_made ⟨by decide, by decide⟩ hl.1 rfl rfl (Nat.le_of_ble_eq_true rfl) ⟨Nat.le_of_ble_eq_true rfl, Nat.le_of_ble_eq_true rfl⟩ hS (fun _ z => z.elim) (fun q z => Or.inr z) dX3_ifOfSet_10 (fun rv_c_1 H_c_1 locs hp_c_1 k_c_1 hS => ?_)
    have kw := kw.trans k_c_1
    have hK := hK.ext k_c_1
    obtain ⟨a_r_2, rfl, hq_r_2⟩ := hp_c_1
    refine W.eq (g2 := F0 m 13 ls [.ref (a_r_2)]) rfl ?_
    refine lv_goto (tgt := 17) hx hb dX3_ifOfSet_13 (by decide) ?_
    refine x_ret1a hx hb hr hlk hH hS (by omega) (by omega) (Or.inr ⟨_, rfl⟩) ?_ dX3_ifOfSet_17
    exact RowO.s (by unfold ifSet; (repeat (first | with_reducible refine ifp (by omega) ?_ | with_reducible refine ifn (by omega) ?_)); first | rfl) hq_r_2

theorem hpX3_rooted : plainFor yX3_rooted = true := by decide +kernel
theorem hdX3_rooted : nMH yX3_rooted 2 := by decide +kernel
set_option maxHeartbeats 4000000 in
theorem c_X3_rooted (l : Launch) (G : GG) (H0 : Heap) (k : Int) (t : Int) (r_k : -2147483648 ≤ k ∧ k < 2147483648) (r_t : -2147483648 ≤ t ∧ t < 2147483648) : Ct1 l G yX3_rooted cX3_rooted 3 (Option.some (Jvm.ClassFile.FieldType.array Jvm.ClassFile.FieldType.int)) 3 1 3 61 [.int (iI (k)), .int (iI (t))] H0 (noW) (fun (rv : Option Value) (H1 : Heap) => RowO G (rootR k t) rv H1) := by
  refine Ct1.start hpX3_rooted (Nat.le_of_ble_eq_true rfl) ?_
  intro p e s m below meth c ls hx hb hr S hlk hname hH hK hS hl
  have hl : lv_has ls 3 [(0, .int (iI (k))), (1, .int (iI (t)))] := hl
  have rz_ := rootZ_r t
  have kw : Keep (noW) H0 H0 := Keep.rf
  have hz0 := hK.2.2.1
  refine lv_iload_n hx hb dX3_rooted_0 rfl (lv_at hl 0 rfl) ?_
  refine xi_iconst hx hb dX3_rooted_1 ?_
  refine xi_icmp_ne (tgt := 11) hx hb dX3_rooted_2 (by decide) (by omega) (by omega) (fun c_2 => ?_) (fun c_2 => ?_)
  · skip
    refine lv_iload_n hx hb dX3_rooted_11 rfl (lv_at hl 0 rfl) ?_
    refine xi_if_eq (tgt := 17) hx hb dX3_rooted_12 (by decide) (by omega) (fun c_12 => ?_) (fun c_12 => ?_)
    · skip
      refine lv_iload_n hx hb dX3_rooted_17 rfl (lv_at hl 1 rfl) ?_
      refine x_c0S (as := [.int (iI (t))]) (rest := []) S hK (c_X3_rootOf l G H0 (t) (by omega) ) q1254 q1255 q43 q1256 hdX3_rootOf ⟨by decide, by decide⟩ hl.1 rfl rfl (Nat.le_of_ble_eq_true rfl) ⟨Nat.le_of_ble_eq_true rfl, Nat.le_of_ble_eq_true rfl⟩ dX3_rooted_18 ?_
      refine lv_istore_n (lv' := [(2, .int (iI (rootZ (t)))), (0, .int (iI (k))), (1, .int (iI (t)))]) hx hb dX3_rooted_21 rfl hl (by decide) rfl (fun ls hl => ?_)
      refine lv_iload_n hx hb dX3_rooted_22 rfl (lv_at hl 0 rfl) ?_
      refine xi_ldc (z := 1000000) hx hb S.2.2.2.1 S.2.2.2.2 q1257 (by decide +kernel) dX3_rooted_23 ?_
      refine xi_icmp_ne (tgt := 36) hx hb dX3_rooted_25 (by decide) (by omega) (by omega) (fun c_25 => ?_) (fun c_25 => ?_)
      · skip
        refine xi_iconst hx hb dX3_rooted_36 ?_
        refine lv_iload_n hx hb dX3_rooted_37 rfl (lv_at hl 0 rfl) ?_
        refine xi_imul hx hb dX3_rooted_38 ?_
        refine x_c1S (as := [.int (iI ((4) * (rootZ (t))))]) (rest := []) S hK (c_X3_exact l G H0 ((4) * (rootZ (t))) (by omega) ) q1139 q1140 q43 q1141 hdX3_exact ⟨by decide, by decide⟩ hl.1 rfl rfl (Nat.le_of_ble_eq_true rfl) ⟨Nat.le_of_ble_eq_true rfl, Nat.le_of_ble_eq_true rfl⟩ hS (fun _ z => z.elim) (fun q z => Or.inr z) dX3_rooted_39 (fun rv_c_1 H_c_1 locs hp_c_1 k_c_1 hS => ?_)
        have kw := kw.trans k_c_1
        have hK := hK.ext k_c_1
        obtain ⟨a_r_2, rfl, hq_r_2⟩ := hp_c_1
        refine W.eq (g2 := F0 m 42 ls [.ref (a_r_2)]) rfl ?_
        refine x_ret1a hx hb hr hlk hH hS (by omega) (by omega) (Or.inr ⟨_, rfl⟩) ?_ dX3_rooted_42
        exact RowO.s (by unfold rootR; (repeat (first | with_reducible refine ifp (by omega) ?_ | with_reducible refine ifn (by omega) ?_)); first | rfl) hq_r_2
      · skip
        refine xi_iconst hx hb dX3_rooted_28 ?_
        refine lv_iload_n hx hb dX3_rooted_29 rfl (lv_at hl 2 rfl) ?_
        refine x_c1S (as := [.int (iI (2)), .int (iI (t))]) (rest := []) S hK (c_X3_made l G H0 (2) (t) (by omega) (by omega) ) q1142 q1143 q43 q1144 hdX3_made ⟨by decide, by decide⟩ hl.1 rfl rfl (Nat.le_of_ble_eq_true rfl) ⟨Nat.le_of_ble_eq_true rfl, Nat.le_of_ble_eq_true rfl⟩ hS (fun _ z => z.elim) (fun q z => Or.inr z) dX3_rooted_30 (fun rv_c_3 H_c_3 locs hp_c_3 k_c_3 hS => ?_)
        have kw := kw.trans k_c_3
        have hK := hK.ext k_c_3
        obtain ⟨a_r_4, rfl, hq_r_4⟩ := hp_c_3
        refine W.eq (g2 := F0 m 33 ls [.ref (a_r_4)]) rfl ?_
        refine lv_goto (tgt := 42) hx hb dX3_rooted_33 (by decide) ?_
        refine x_ret1a hx hb hr hlk hH hS (by omega) (by omega) (Or.inr ⟨_, rfl⟩) ?_ dX3_rooted_42
        exact RowO.s (by unfold rootR; (repeat (first | with_reducible refine ifp (by omega) ?_ | with_reducible refine ifn (by omega) ?_)); first | rfl) hq_r_4
    · skip
      refine lv_null hx hb dX3_rooted_15 ?_
      refine x_ret1N hx hb hr hlk hH hS (by omega) (by omega) (Or.inr ⟨_, rfl⟩) ?_ dX3_rooted_16
      exact RowO.n (by unfold rootR; (repeat (first | with_reducible refine ifp (by omega) ?_ | with_reducible refine ifn (by omega) ?_)); first | rfl | ((repeat' split) <;> first | omega | rfl))
  · skip
    refine xi_iconst hx hb dX3_rooted_5 ?_
    refine lv_iload_n hx hb dX3_rooted_6 rfl (lv_at hl 1 rfl) ?_
    refine x_c1S (as := [.int (iI (4)), .int (iI (t))]) (rest := []) S hK (c_X3_made l G H0 (4) (t) (by omega) (by omega) ) q1142 q1143 q43 q1144 hdX3_made ⟨by decide, by decide⟩ hl.1 rfl rfl (Nat.le_of_ble_eq_true rfl) ⟨Nat.le_of_ble_eq_true rfl, Nat.le_of_ble_eq_true rfl⟩ hS (fun _ z => z.elim) (fun q z => Or.inr z) dX3_rooted_7 (fun rv_c_5 H_c_5 locs hp_c_5 k_c_5 hS => ?_)
    have kw := kw.trans k_c_5
    have hK := hK.ext k_c_5
    obtain ⟨a_r_6, rfl, hq_r_6⟩ := hp_c_5
    refine W.eq (g2 := F0 m 10 ls [.ref (a_r_6)]) rfl ?_
    refine x_ret1a hx hb hr hlk hH hS (by omega) (by omega) (Or.inr ⟨_, rfl⟩) ?_ dX3_rooted_10
    exact RowO.s (by unfold rootR; (repeat (first | with_reducible refine ifp (by omega) ?_ | with_reducible refine ifn (by omega) ?_)); first | rfl) hq_r_6

theorem hpX3_cubed : plainFor yX3_cubed = true := by decide +kernel
theorem hdX3_cubed : nMH yX3_cubed 2 := by decide +kernel
set_option maxHeartbeats 4000000 in
theorem c_X3_cubed (l : Launch) (G : GG) (H0 : Heap) (k : Int) (t : Int) (r_k : -2147483648 ≤ k ∧ k < 2147483648) (r_t : -2147483648 ≤ t ∧ t < 2147483648) (ht : -524280 ≤ t ∧ t ≤ 524280) : Ct1 l G yX3_cubed cX3_cubed 4 (Option.some (Jvm.ClassFile.FieldType.array Jvm.ClassFile.FieldType.int)) 3 1 3 68 [.int (iI (k)), .int (iI (t))] H0 (noW) (fun (rv : Option Value) (H1 : Heap) => RowO G (cubR k t) rv H1) := by
  refine Ct1.start hpX3_cubed (Nat.le_of_ble_eq_true rfl) ?_
  intro p e s m below meth c ls hx hb hr S hlk hname hH hK hS hl
  have hl : lv_has ls 4 [(0, .int (iI (k))), (1, .int (iI (t)))] := hl
  have kw : Keep (noW) H0 H0 := Keep.rf
  have hz0 := hK.2.2.1
  refine lv_iload_n hx hb dX3_cubed_0 rfl (lv_at hl 0 rfl) ?_
  refine xi_iconst hx hb dX3_cubed_1 ?_
  refine xi_icmp_ne (tgt := 11) hx hb dX3_cubed_2 (by decide) (by omega) (by omega) (fun c_2 => ?_) (fun c_2 => ?_)
  · skip
    refine lv_iload_n hx hb dX3_cubed_11 rfl (lv_at hl 0 rfl) ?_
    refine xi_if_ne (tgt := 21) hx hb dX3_cubed_12 (by decide) (by omega) (fun c_12 => ?_) (fun c_12 => ?_)
    · skip
      refine lv_null hx hb dX3_cubed_21 ?_
      refine x_ret1N hx hb hr hlk hH hS (by omega) (by omega) (Or.inr ⟨_, rfl⟩) ?_ dX3_cubed_22
      exact RowO.n (by unfold cubR; (repeat (first | with_reducible refine ifp (by omega) ?_ | with_reducible refine ifn (by omega) ?_)); first | rfl | ((repeat' split) <;> first | omega | rfl))
    · skip
      refine lv_iload_n hx hb dX3_cubed_15 rfl (lv_at hl 1 rfl) ?_
      refine xi_iconst hx hb dX3_cubed_16 ?_
      refine xi_irem hx hb (by omega) (by omega) (by omega) (by omega) dX3_cubed_17 ?_
      have td_17 := tdm (t) (4) (by decide)
      refine xi_if_eq (tgt := 23) hx hb dX3_cubed_18 (by decide) (by omega) (fun c_18 => ?_) (fun c_18 => ?_)
      · skip
        refine lv_iload_n hx hb dX3_cubed_23 rfl (lv_at hl 1 rfl) ?_
        refine xi_iconst hx hb dX3_cubed_24 ?_
        refine xi_idiv hx hb (by omega) (by omega) (by omega) (by omega) dX3_cubed_25 ?_
        have td_25 := tdm (t) (4) (by decide)
        refine xi_i2l hx hb (by omega) dX3_cubed_26 ?_
        refine lv_lstore_n (lv' := [(2, .long (jI (Int.tdiv (t) (4)))), (0, .int (iI (k))), (1, .int (iI (t)))]) hx hb dX3_cubed_27 rfl hl (by decide) rfl (fun ls hl => ?_)
        refine xi_iconst hx hb dX3_cubed_28 ?_
        refine lv_lload_n hx hb dX3_cubed_29 rfl (lv_at hl 0 rfl) ?_
        refine lv_lload_n hx hb dX3_cubed_30 rfl (lv_at hl 0 rfl) ?_
        refine xi_lmul hx hb dX3_cubed_31 ?_
        refine xj_name (fun sq e_sq => ?_)
        have sq_ := mulB (a := Int.tdiv t 4) (b := Int.tdiv t 4) (A := 131070) (B := 131070) (by omega) (by omega)
        refine lv_lload_n hx hb dX3_cubed_32 rfl (lv_at hl 0 rfl) ?_
        refine xi_lmul hx hb dX3_cubed_33 ?_
        refine xj_name (fun cu e_cu => ?_)
        have cu_ := cubeB (a := Int.tdiv t 4) (A := 131070) (by omega)
        have e4_ : t / 4 = Int.tdiv t 4 := by omega
        have hcu : cu = Int.tdiv t 4 * Int.tdiv t 4 * Int.tdiv t 4 := by rw [e_cu, e_sq]
        refine x_c1S (as := [.int (iI (0)), .long (jI (cu))]) (rest := []) S hK (c_X3_ifOfSet l G H0 (0) (cu) (by omega) (by omega) ) q1261 q1262 q43 q1263 hdX3_ifOfSet ⟨by decide, by decide⟩ hl.1 rfl rfl (Nat.le_of_ble_eq_true rfl) ⟨Nat.le_of_ble_eq_true rfl, Nat.le_of_ble_eq_true rfl⟩ hS (fun _ z => z.elim) (fun q z => Or.inr z) dX3_cubed_34 (fun rv_c_1 H_c_1 locs hp_c_1 k_c_1 hS => ?_)
        have kw := kw.trans k_c_1
        have hK := hK.ext k_c_1
        rcases hp_c_1 with ⟨r_r_2, a_r_2, e_r_2, rfl, hq_r_2⟩ | ⟨e_r_2, rfl⟩
        · skip
          refine W.eq (g2 := F0 m 37 ls [.ref (a_r_2)]) rfl ?_
          refine x_ret1a hx hb hr hlk hH hS (by omega) (by omega) (Or.inr ⟨_, rfl⟩) ?_ dX3_cubed_37
          exact RowO.s (by unfold cubR; (repeat (first | with_reducible refine ifp (by omega) ?_ | with_reducible refine ifn (by omega) ?_)); first | rfl | exact e_r_2 | (rw [e4_, ← hcu]; exact e_r_2)) hq_r_2
        · skip
          refine W.eq (g2 := F0 m 37 ls [.null]) rfl ?_
          refine x_ret1N hx hb hr hlk hH hS (by omega) (by omega) (Or.inr ⟨_, rfl⟩) ?_ dX3_cubed_37
          exact RowO.n (by unfold cubR; (repeat (first | with_reducible refine ifp (by omega) ?_ | with_reducible refine ifn (by omega) ?_)); first | rfl | exact e_r_2 | (rw [e4_, ← hcu]; exact e_r_2))
      · skip
        refine lv_null hx hb dX3_cubed_21 ?_
        refine x_ret1N hx hb hr hlk hH hS (by omega) (by omega) (Or.inr ⟨_, rfl⟩) ?_ dX3_cubed_22
        exact RowO.n (by unfold cubR; (repeat (first | with_reducible refine ifp (by omega) ?_ | with_reducible refine ifn (by omega) ?_)); first | rfl | ((repeat' split) <;> first | omega | rfl))
  · skip
    refine xi_iconst hx hb dX3_cubed_5 ?_
    refine lv_iload_n hx hb dX3_cubed_6 rfl (lv_at hl 1 rfl) ?_
    refine x_c1S (as := [.int (iI (3)), .int (iI (t))]) (rest := []) S hK (c_X3_made l G H0 (3) (t) (by omega) (by omega) ) q1142 q1143 q43 q1144 hdX3_made ⟨by decide, by decide⟩ hl.1 rfl rfl (Nat.le_of_ble_eq_true rfl) ⟨Nat.le_of_ble_eq_true rfl, Nat.le_of_ble_eq_true rfl⟩ hS (fun _ z => z.elim) (fun q z => Or.inr z) dX3_cubed_7 (fun rv_c_3 H_c_3 locs hp_c_3 k_c_3 hS => ?_)
    have kw := kw.trans k_c_3
    have hK := hK.ext k_c_3
    obtain ⟨a_r_4, rfl, hq_r_4⟩ := hp_c_3
    refine W.eq (g2 := F0 m 10 ls [.ref (a_r_4)]) rfl ?_
    refine x_ret1a hx hb hr hlk hH hS (by omega) (by omega) (Or.inr ⟨_, rfl⟩) ?_ dX3_cubed_10
    exact RowO.s (by unfold cubR; (repeat (first | with_reducible refine ifp (by omega) ?_ | with_reducible refine ifn (by omega) ?_)); first | rfl) hq_r_4

theorem hpX3_become : plainFor yX3_become = true := by decide +kernel
theorem hdX3_become : nMH yX3_become 2 := by decide +kernel
set_option maxHeartbeats 4000000 in
theorem c_X3_become (l : Launch) (G : GG) (H0 : Heap) (a : Row) (x : Nat) (how : Int) (r_how : -2147483648 ≤ how ∧ how < 2147483648) (ba : bRow a) (fa : RowAt G (x) (a) H0) : Ct1 l G yX3_become cX3_become 4 (Option.some (Jvm.ClassFile.FieldType.array Jvm.ClassFile.FieldType.int)) 4 1 3 91 [.ref (x), .int (iI (how))] H0 (noW) (fun (rv : Option Value) (H1 : Heap) => RowO G (becomeR a how) rv H1) := by
  refine Ct1.start hpX3_become (Nat.le_of_ble_eq_true rfl) ?_
  intro p e s m below meth c ls hx hb hr S hlk hname hH hK hS hl
  have hl : lv_has ls 4 [(0, .ref (x)), (1, .int (iI (how)))] := hl
  have kw : Keep (noW) H0 H0 := Keep.rf
  have hz0 := hK.2.2.1
  refine lv_aload_n hx hb dX3_become_0 rfl (lv_at hl 0 rfl) ?_
  refine xi_iconst hx hb dX3_become_1 ?_
  refine x_iald (w := (a).1) S hK fa (by omega) (by decide) rfl dX3_become_2 ?_
  refine lv_istore_n (lv' := [(2, .int (iI ((a).1))), (0, .ref (x)), (1, .int (iI (how)))]) hx hb dX3_become_3 rfl hl (by decide) rfl (fun ls hl => ?_)
  refine lv_aload_n hx hb dX3_become_4 rfl (lv_at hl 1 rfl) ?_
  refine xi_iconst hx hb dX3_become_5 ?_
  refine x_iald (w := (a).2.1) S hK fa (by omega) (by decide) rfl dX3_become_6 ?_
  refine lv_istore_n (lv' := [(3, .int (iI ((a).2.1))), (2, .int (iI ((a).1))), (0, .ref (x)), (1, .int (iI (how)))]) hx hb dX3_become_7 rfl hl (by decide) rfl (fun ls hl => ?_)
  refine lv_iload_n hx hb dX3_become_8 rfl (lv_at hl 1 rfl) ?_
  refine xi_iconst hx hb dX3_become_9 ?_
  refine xi_icmp_eq (tgt := 20) hx hb dX3_become_10 (by decide) (by omega) (by omega) (fun c_10 => ?_) (fun c_10 => ?_)
  · skip
    refine lv_aload_n hx hb dX3_become_20 rfl (lv_at hl 2 rfl) ?_
    refine x_ret1a hx hb hr hlk hH hS (by omega) (by omega) (Or.inr ⟨_, rfl⟩) ?_ dX3_become_21
    exact RowO.s (by unfold becomeR; (repeat (first | with_reducible refine ifp (by omega) ?_ | with_reducible refine ifn (by omega) ?_)); first | rfl) fa
  · skip
    refine lv_aload_n hx hb dX3_become_13 rfl (lv_at hl 2 rfl) ?_
    refine x_c0S (as := [.ref (x)]) (rest := []) S hK (c_X3_isZero l G H0 (a) (x) (by first | assumption | (apply hbc; omega)) fa) q1248 q1249 q43 q1250 hdX3_isZero ⟨by decide, by decide⟩ hl.1 rfl rfl (Nat.le_of_ble_eq_true rfl) ⟨Nat.le_of_ble_eq_true rfl, Nat.le_of_ble_eq_true rfl⟩ dX3_become_14 ?_
    refine xi_ifb_eq (tgt := 22) hx hb dX3_become_17 (by decide) (fun c_17 => ?_) (fun c_17 => ?_)
    · skip
      refine lv_iload_n hx hb dX3_become_22 rfl (lv_at hl 3 rfl) ?_
      refine xi_iconst hx hb dX3_become_23 ?_
      refine xi_icmp_ne (tgt := 33) hx hb dX3_become_24 (by decide) (by omega) (by omega) (fun c_24 => ?_) (fun c_24 => ?_)
      · skip
        refine lv_iload_n hx hb dX3_become_33 rfl (lv_at hl 3 rfl) ?_
        refine xi_iconst hx hb dX3_become_34 ?_
        refine xi_icmp_ne (tgt := 44) hx hb dX3_become_35 (by decide) (by omega) (by omega) (fun c_35 => ?_) (fun c_35 => ?_)
        · skip
          have L_64 : ∀  (j64 : ¬ (how = 3 ∧ a.1 = 0)) (H_L64 : Heap) (locs : List Loc) (cells_64 slots_64 : Nat) (hcs_64 : cells_64 = 0 ∧ slots_64 = 0) (kw : Keep (noW) H0 H_L64) (hK : KH G s H_L64) (hS : va_S (xA (noW) H0) H0 H_L64 locs)  (ls : Array Slot) (hl : lv_has ls 4 [(0, .ref (x)), (1, .int (iI (how))), (2, .int (iI (a.1))), (3, .int (iI (a.2.1)))]), W p l e { frames := 4, cells := 1, slots := 3, locals := 91 } s m ([.ref (x), .int (iI (how))] : List Value).toArray below meth c H_L64 locs cells_64 slots_64 (MQ below (xQ (fun (rv : Option Value) (H1 : Heap) => RowO G (becomeR a how) rv H1) (xA (noW) H0)) ([.ref (x), .int (iI (how))] : List Value).toArray s 1 3 (xA (noW) H0)) (F0 m 64 ls []) := by
            intro j64 H_L64 locs cells_64 slots_64 hcs_64 kw hK hS ls hl
            have L_85 : ∀  (j85 : how ≠ 3 ∨ (a.1 ≠ 0 ∧ a.1 ≠ 2)) (H_L85 : Heap) (locs : List Loc) (cells_85 slots_85 : Nat) (hcs_85 : cells_85 = cells_64 ∧ slots_85 = slots_64) (kw : Keep (noW) H0 H_L85) (hK : KH G s H_L85) (hS : va_S (xA (noW) H0) H0 H_L85 locs)  (ls : Array Slot) (hl : lv_has ls 4 [(0, .ref (x)), (1, .int (iI (how))), (2, .int (iI (a.1))), (3, .int (iI (a.2.1)))]), W p l e { frames := 4, cells := 1, slots := 3, locals := 91 } s m ([.ref (x), .int (iI (how))] : List Value).toArray below meth c H_L85 locs cells_85 slots_85 (MQ below (xQ (fun (rv : Option Value) (H1 : Heap) => RowO G (becomeR a how) rv H1) (xA (noW) H0)) ([.ref (x), .int (iI (how))] : List Value).toArray s 1 3 (xA (noW) H0)) (F0 m 85 ls []) := by
              intro j85 H_L85 locs cells_85 slots_85 hcs_85 kw hK hS ls hl
              have L_109 : ∀  (j109 : ¬ (how = 4 ∧ a.1 = 0 ∧ a.2.1 % 2 = 0)) (H_L109 : Heap) (locs : List Loc) (cells_109 slots_109 : Nat) (hcs_109 : cells_109 = cells_85 ∧ slots_109 = slots_85) (kw : Keep (noW) H0 H_L109) (hK : KH G s H_L109) (hS : va_S (xA (noW) H0) H0 H_L109 locs)  (ls : Array Slot) (hl : lv_has ls 4 [(0, .ref (x)), (1, .int (iI (how))), (2, .int (iI (a.1))), (3, .int (iI (a.2.1)))]), W p l e { frames := 4, cells := 1, slots := 3, locals := 91 } s m ([.ref (x), .int (iI (how))] : List Value).toArray below meth c H_L109 locs cells_109 slots_109 (MQ below (xQ (fun (rv : Option Value) (H1 : Heap) => RowO G (becomeR a how) rv H1) (xA (noW) H0)) ([.ref (x), .int (iI (how))] : List Value).toArray s 1 3 (xA (noW) H0)) (F0 m 109 ls []) := by
                intro j109 H_L109 locs cells_109 slots_109 hcs_109 kw hK hS ls hl
                have L_136 : ∀  (j136 : how ≠ 4 ∨ ¬ (a.1 = 2 ∧ a.2.1 % 8 = 0)) (H_L136 : Heap) (locs : List Loc) (cells_136 slots_136 : Nat) (hcs_136 : cells_136 = cells_109 ∧ slots_136 = slots_109) (kw : Keep (noW) H0 H_L136) (hK : KH G s H_L136) (hS : va_S (xA (noW) H0) H0 H_L136 locs)  (ls : Array Slot) (hl : lv_has ls 4 [(0, .ref (x)), (1, .int (iI (how))), (2, .int (iI (a.1))), (3, .int (iI (a.2.1)))]), W p l e { frames := 4, cells := 1, slots := 3, locals := 91 } s m ([.ref (x), .int (iI (how))] : List Value).toArray below meth c H_L136 locs cells_136 slots_136 (MQ below (xQ (fun (rv : Option Value) (H1 : Heap) => RowO G (becomeR a how) rv H1) (xA (noW) H0)) ([.ref (x), .int (iI (how))] : List Value).toArray s 1 3 (xA (noW) H0)) (F0 m 136 ls []) := by
                  intro j136 H_L136 locs cells_136 slots_136 hcs_136 kw hK hS ls hl
                  have L_150 : ∀  (j150 : how = 5 ∧ (a.1 = 0 ∨ a.1 = 3)) (H_L150 : Heap) (locs : List Loc) (cells_150 slots_150 : Nat) (hcs_150 : cells_150 = cells_136 ∧ slots_150 = slots_136) (kw : Keep (noW) H0 H_L150) (hK : KH G s H_L150) (hS : va_S (xA (noW) H0) H0 H_L150 locs)  (ls : Array Slot) (hl : lv_has ls 4 [(0, .ref (x)), (1, .int (iI (how))), (2, .int (iI (a.1))), (3, .int (iI (a.2.1)))]), W p l e { frames := 4, cells := 1, slots := 3, locals := 91 } s m ([.ref (x), .int (iI (how))] : List Value).toArray below meth c H_L150 locs cells_150 slots_150 (MQ below (xQ (fun (rv : Option Value) (H1 : Heap) => RowO G (becomeR a how) rv H1) (xA (noW) H0)) ([.ref (x), .int (iI (how))] : List Value).toArray s 1 3 (xA (noW) H0)) (F0 m 150 ls []) := by
                    intro j150 H_L150 locs cells_150 slots_150 hcs_150 kw hK hS ls hl
                    refine lv_iload_n hx hb dX3_become_150 rfl (lv_at hl 2 rfl) ?_
                    refine xi_ldc2 (z := 8) hx hb S.2.2.2.1 S.2.2.2.2 q1232 (by decide +kernel) dX3_become_151 ?_
                    refine lv_iload_n hx hb dX3_become_154 rfl (lv_at hl 3 rfl) ?_
                    refine xi_i2l hx hb (by omega) dX3_become_155 ?_
                    refine xi_lmul hx hb dX3_become_156 ?_
                    refine x_c1S (as := [.int (iI (a.1)), .long (jI ((8) * (a.2.1)))]) (rest := []) S hK (c_X3_ifOfSet l G H_L150 (a.1) ((8) * (a.2.1)) (by omega) (by omega) ) q1261 q1262 q43 q1263 hdX3_ifOfSet ⟨by decide, by decide⟩ hl.1 rfl rfl (Nat.le_of_ble_eq_true rfl) ⟨by omega, by omega⟩ hS (fun _ z => z.elim) (fun q z => Or.inr z) dX3_become_157 (fun rv_c_1 H_c_1 locs hp_c_1 k_c_1 hS => ?_)
                    have kw := kw.trans k_c_1
                    have hK := hK.ext k_c_1
                    rcases hp_c_1 with ⟨r_r_2, a_r_2, e_r_2, rfl, hq_r_2⟩ | ⟨e_r_2, rfl⟩
                    · skip
                      refine W.eq (g2 := F0 m 160 ls [.ref (a_r_2)]) rfl ?_
                      refine x_ret1a hx hb hr hlk hH hS (by omega) (by omega) (Or.inr ⟨_, rfl⟩) ?_ dX3_become_160
                      exact RowO.s (by unfold becomeR; (repeat (first | with_reducible refine ifp (by omega) ?_ | with_reducible refine ifn (by omega) ?_)); first | rfl | exact e_r_2) hq_r_2
                    · skip
                      refine W.eq (g2 := F0 m 160 ls [.null]) rfl ?_
                      refine x_ret1N hx hb hr hlk hH hS (by omega) (by omega) (Or.inr ⟨_, rfl⟩) ?_ dX3_become_160
                      exact RowO.n (by unfold becomeR; (repeat (first | with_reducible refine ifp (by omega) ?_ | with_reducible refine ifn (by omega) ?_)); first | rfl | exact e_r_2)
                  have L_161 : ∀  (j161 : ¬ (how = 5 ∧ (a.1 = 0 ∨ a.1 = 3))) (H_L161 : Heap) (locs : List Loc) (cells_161 slots_161 : Nat) (hcs_161 : cells_161 = cells_136 ∧ slots_161 = slots_136) (kw : Keep (noW) H0 H_L161) (hK : KH G s H_L161) (hS : va_S (xA (noW) H0) H0 H_L161 locs)  (ls : Array Slot) (hl : lv_has ls 4 [(0, .ref (x)), (1, .int (iI (how))), (2, .int (iI (a.1))), (3, .int (iI (a.2.1)))]), W p l e { frames := 4, cells := 1, slots := 3, locals := 91 } s m ([.ref (x), .int (iI (how))] : List Value).toArray below meth c H_L161 locs cells_161 slots_161 (MQ below (xQ (fun (rv : Option Value) (H1 : Heap) => RowO G (becomeR a how) rv H1) (xA (noW) H0)) ([.ref (x), .int (iI (how))] : List Value).toArray s 1 3 (xA (noW) H0)) (F0 m 161 ls []) := by
                    intro j161 H_L161 locs cells_161 slots_161 hcs_161 kw hK hS ls hl
                    refine lv_null hx hb dX3_become_161 ?_
                    refine x_ret1N hx hb hr hlk hH hS (by omega) (by omega) (Or.inr ⟨_, rfl⟩) ?_ dX3_become_162
                    exact RowO.n (by unfold becomeR; (repeat (first | with_reducible refine ifp (by omega) ?_ | with_reducible refine ifn (by omega) ?_)); first | rfl | ((repeat' split) <;> first | omega | rfl))
                  refine lv_iload_n hx hb dX3_become_136 rfl (lv_at hl 1 rfl) ?_
                  refine xi_iconst hx hb dX3_become_137 ?_
                  refine xi_icmp_ne (tgt := 161) hx hb dX3_become_138 (by decide) (by omega) (by omega) (fun c_138 => ?_) (fun c_138 => ?_)
                  · skip
                    exact L_161 (by omega) H_L136 locs (cells_136) (slots_136) (by constructor <;> omega) kw hK hS ls (lv_sub hl [0, 1, 2, 3] rfl)
                  · skip
                    refine lv_iload_n hx hb dX3_become_141 rfl (lv_at hl 2 rfl) ?_
                    refine xi_if_eq (tgt := 150) hx hb dX3_become_142 (by decide) (by omega) (fun c_142 => ?_) (fun c_142 => ?_)
                    · skip
                      exact L_150 (by omega) H_L136 locs (cells_136) (slots_136) (by constructor <;> omega) kw hK hS ls (lv_sub hl [0, 1, 2, 3] rfl)
                    · skip
                      refine lv_iload_n hx hb dX3_become_145 rfl (lv_at hl 2 rfl) ?_
                      refine xi_iconst hx hb dX3_become_146 ?_
                      refine xi_icmp_ne (tgt := 161) hx hb dX3_become_147 (by decide) (by omega) (by omega) (fun c_147 => ?_) (fun c_147 => ?_)
                      · skip
                        exact L_161 (by omega) H_L136 locs (cells_136) (slots_136) (by constructor <;> omega) kw hK hS ls (lv_sub hl [0, 1, 2, 3] rfl)
                      · skip
                        exact L_150 (by omega) H_L136 locs (cells_136) (slots_136) (by constructor <;> omega) kw hK hS ls (lv_sub hl [0, 1, 2, 3] rfl)
                refine lv_iload_n hx hb dX3_become_109 rfl (lv_at hl 1 rfl) ?_
                refine xi_iconst hx hb dX3_become_110 ?_
                refine xi_icmp_ne (tgt := 136) hx hb dX3_become_111 (by decide) (by omega) (by omega) (fun c_111 => ?_) (fun c_111 => ?_)
                · skip
                  exact L_136 (by omega) H_L109 locs (cells_109) (slots_109) (by constructor <;> omega) kw hK hS ls (lv_sub hl [0, 1, 2, 3] rfl)
                · skip
                  refine lv_iload_n hx hb dX3_become_114 rfl (lv_at hl 2 rfl) ?_
                  refine xi_iconst hx hb dX3_become_115 ?_
                  refine xi_icmp_ne (tgt := 136) hx hb dX3_become_116 (by decide) (by omega) (by omega) (fun c_116 => ?_) (fun c_116 => ?_)
                  · skip
                    exact L_136 (by omega) H_L109 locs (cells_109) (slots_109) (by constructor <;> omega) kw hK hS ls (lv_sub hl [0, 1, 2, 3] rfl)
                  · skip
                    refine lv_iload_n hx hb dX3_become_119 rfl (lv_at hl 3 rfl) ?_
                    refine xi_bipush hx hb (by decide) dX3_become_120 ?_
                    refine xi_irem hx hb (by omega) (by omega) (by omega) (by omega) dX3_become_122 ?_
                    have td_122 := tdm (a.2.1) (8) (by decide)
                    refine xi_if_ne (tgt := 136) hx hb dX3_become_123 (by decide) (by omega) (fun c_123 => ?_) (fun c_123 => ?_)
                    · skip
                      exact L_136 (by omega) H_L109 locs (cells_109) (slots_109) (by constructor <;> omega) kw hK hS ls (lv_sub hl [0, 1, 2, 3] rfl)
                    · skip
                      refine xi_iconst hx hb dX3_become_126 ?_
                      refine lv_iload_n hx hb dX3_become_127 rfl (lv_at hl 3 rfl) ?_
                      refine xi_bipush hx hb (by decide) dX3_become_128 ?_
                      refine xi_idiv hx hb (by omega) (by omega) (by omega) (by omega) dX3_become_130 ?_
                      have td_130 := tdm (a.2.1) (8) (by decide)
                      refine xi_i2l hx hb (by omega) dX3_become_131 ?_
                      refine x_c1S (as := [.int (iI (2)), .long (jI (Int.tdiv (a.2.1) (8)))]) (rest := []) S hK (c_X3_ifOfSet l G H_L109 (2) (Int.tdiv (a.2.1) (8)) (by omega) (by omega) ) q1261 q1262 q43 q1263 hdX3_ifOfSet ⟨by decide, by decide⟩ hl.1 rfl rfl (Nat.le_of_ble_eq_true rfl) ⟨by omega, by omega⟩ hS (fun _ z => z.elim) (fun q z => Or.inr z) dX3_become_132 (fun rv_c_3 H_c_3 locs hp_c_3 k_c_3 hS => ?_)
                      have kw := kw.trans k_c_3
                      have hK := hK.ext k_c_3
                      rcases hp_c_3 with ⟨r_r_4, a_r_4, e_r_4, rfl, hq_r_4⟩ | ⟨e_r_4, rfl⟩
                      · skip
                        refine W.eq (g2 := F0 m 135 ls [.ref (a_r_4)]) rfl ?_
                        refine x_ret1a hx hb hr hlk hH hS (by omega) (by omega) (Or.inr ⟨_, rfl⟩) ?_ dX3_become_135
                        exact RowO.s (by unfold becomeR; (repeat (first | with_reducible refine ifp (by omega) ?_ | with_reducible refine ifn (by omega) ?_)); first | rfl | exact e_r_4 | (rw [show a.2.1 / 8 = Int.tdiv a.2.1 8 by omega]; exact e_r_4)) hq_r_4
                      · skip
                        refine W.eq (g2 := F0 m 135 ls [.null]) rfl ?_
                        refine x_ret1N hx hb hr hlk hH hS (by omega) (by omega) (Or.inr ⟨_, rfl⟩) ?_ dX3_become_135
                        exact RowO.n (by unfold becomeR; (repeat (first | with_reducible refine ifp (by omega) ?_ | with_reducible refine ifn (by omega) ?_)); first | rfl | exact e_r_4 | (rw [show a.2.1 / 8 = Int.tdiv a.2.1 8 by omega]; exact e_r_4))
              refine lv_iload_n hx hb dX3_become_85 rfl (lv_at hl 1 rfl) ?_
              refine xi_iconst hx hb dX3_become_86 ?_
              refine xi_icmp_ne (tgt := 109) hx hb dX3_become_87 (by decide) (by omega) (by omega) (fun c_87 => ?_) (fun c_87 => ?_)
              · skip
                exact L_109 (by omega) H_L85 locs (cells_85) (slots_85) (by constructor <;> omega) kw hK hS ls (lv_sub hl [0, 1, 2, 3] rfl)
              · skip
                refine lv_iload_n hx hb dX3_become_90 rfl (lv_at hl 2 rfl) ?_
                refine xi_if_ne (tgt := 109) hx hb dX3_become_91 (by decide) (by omega) (fun c_91 => ?_) (fun c_91 => ?_)
                · skip
                  exact L_109 (by omega) H_L85 locs (cells_85) (slots_85) (by constructor <;> omega) kw hK hS ls (lv_sub hl [0, 1, 2, 3] rfl)
                · skip
                  refine lv_iload_n hx hb dX3_become_94 rfl (lv_at hl 3 rfl) ?_
                  refine xi_iconst hx hb dX3_become_95 ?_
                  refine xi_irem hx hb (by omega) (by omega) (by omega) (by omega) dX3_become_96 ?_
                  have td_96 := tdm (a.2.1) (2) (by decide)
                  refine xi_if_ne (tgt := 109) hx hb dX3_become_97 (by decide) (by omega) (fun c_97 => ?_) (fun c_97 => ?_)
                  · skip
                    exact L_109 (by omega) H_L85 locs (cells_85) (slots_85) (by constructor <;> omega) kw hK hS ls (lv_sub hl [0, 1, 2, 3] rfl)
                  · skip
                    refine xi_iconst hx hb dX3_become_100 ?_
                    refine lv_iload_n hx hb dX3_become_101 rfl (lv_at hl 3 rfl) ?_
                    refine xi_iconst hx hb dX3_become_102 ?_
                    refine xi_idiv hx hb (by omega) (by omega) (by omega) (by omega) dX3_become_103 ?_
                    have td_103 := tdm (a.2.1) (2) (by decide)
                    refine xi_i2l hx hb (by omega) dX3_become_104 ?_
                    refine x_c1S (as := [.int (iI (0)), .long (jI (Int.tdiv (a.2.1) (2)))]) (rest := []) S hK (c_X3_ifOfSet l G H_L85 (0) (Int.tdiv (a.2.1) (2)) (by omega) (by omega) ) q1261 q1262 q43 q1263 hdX3_ifOfSet ⟨by decide, by decide⟩ hl.1 rfl rfl (Nat.le_of_ble_eq_true rfl) ⟨by omega, by omega⟩ hS (fun _ z => z.elim) (fun q z => Or.inr z) dX3_become_105 (fun rv_c_5 H_c_5 locs hp_c_5 k_c_5 hS => ?_)
                    have kw := kw.trans k_c_5
                    have hK := hK.ext k_c_5
                    rcases hp_c_5 with ⟨r_r_6, a_r_6, e_r_6, rfl, hq_r_6⟩ | ⟨e_r_6, rfl⟩
                    · skip
                      refine W.eq (g2 := F0 m 108 ls [.ref (a_r_6)]) rfl ?_
                      refine x_ret1a hx hb hr hlk hH hS (by omega) (by omega) (Or.inr ⟨_, rfl⟩) ?_ dX3_become_108
                      exact RowO.s (by unfold becomeR; (repeat (first | with_reducible refine ifp (by omega) ?_ | with_reducible refine ifn (by omega) ?_)); first | rfl | exact e_r_6 | (rw [show a.2.1 / 2 = Int.tdiv a.2.1 2 by omega]; exact e_r_6)) hq_r_6
                    · skip
                      refine W.eq (g2 := F0 m 108 ls [.null]) rfl ?_
                      refine x_ret1N hx hb hr hlk hH hS (by omega) (by omega) (Or.inr ⟨_, rfl⟩) ?_ dX3_become_108
                      exact RowO.n (by unfold becomeR; (repeat (first | with_reducible refine ifp (by omega) ?_ | with_reducible refine ifn (by omega) ?_)); first | rfl | exact e_r_6 | (rw [show a.2.1 / 2 = Int.tdiv a.2.1 2 by omega]; exact e_r_6))
            refine lv_iload_n hx hb dX3_become_64 rfl (lv_at hl 1 rfl) ?_
            refine xi_iconst hx hb dX3_become_65 ?_
            refine xi_icmp_ne (tgt := 85) hx hb dX3_become_66 (by decide) (by omega) (by omega) (fun c_66 => ?_) (fun c_66 => ?_)
            · skip
              exact L_85 (by omega) H_L64 locs (cells_64) (slots_64) (by constructor <;> omega) kw hK hS ls (lv_sub hl [0, 1, 2, 3] rfl)
            · skip
              refine lv_iload_n hx hb dX3_become_69 rfl (lv_at hl 2 rfl) ?_
              refine xi_iconst hx hb dX3_become_70 ?_
              refine xi_icmp_ne (tgt := 85) hx hb dX3_become_71 (by decide) (by omega) (by omega) (fun c_71 => ?_) (fun c_71 => ?_)
              · skip
                exact L_85 (by omega) H_L64 locs (cells_64) (slots_64) (by constructor <;> omega) kw hK hS ls (lv_sub hl [0, 1, 2, 3] rfl)
              · skip
                refine xi_iconst hx hb dX3_become_74 ?_
                refine xi_ldc2 (z := 8) hx hb S.2.2.2.1 S.2.2.2.2 q1232 (by decide +kernel) dX3_become_75 ?_
                refine lv_iload_n hx hb dX3_become_78 rfl (lv_at hl 3 rfl) ?_
                refine xi_i2l hx hb (by omega) dX3_become_79 ?_
                refine xi_lmul hx hb dX3_become_80 ?_
                refine x_c1S (as := [.int (iI (2)), .long (jI ((8) * (a.2.1)))]) (rest := []) S hK (c_X3_ifOfSet l G H_L64 (2) ((8) * (a.2.1)) (by omega) (by omega) ) q1261 q1262 q43 q1263 hdX3_ifOfSet ⟨by decide, by decide⟩ hl.1 rfl rfl (Nat.le_of_ble_eq_true rfl) ⟨by omega, by omega⟩ hS (fun _ z => z.elim) (fun q z => Or.inr z) dX3_become_81 (fun rv_c_7 H_c_7 locs hp_c_7 k_c_7 hS => ?_)
                have kw := kw.trans k_c_7
                have hK := hK.ext k_c_7
                rcases hp_c_7 with ⟨r_r_8, a_r_8, e_r_8, rfl, hq_r_8⟩ | ⟨e_r_8, rfl⟩
                · skip
                  refine W.eq (g2 := F0 m 84 ls [.ref (a_r_8)]) rfl ?_
                  refine x_ret1a hx hb hr hlk hH hS (by omega) (by omega) (Or.inr ⟨_, rfl⟩) ?_ dX3_become_84
                  exact RowO.s (by unfold becomeR; (repeat (first | with_reducible refine ifp (by omega) ?_ | with_reducible refine ifn (by omega) ?_)); first | rfl | exact e_r_8) hq_r_8
                · skip
                  refine W.eq (g2 := F0 m 84 ls [.null]) rfl ?_
                  refine x_ret1N hx hb hr hlk hH hS (by omega) (by omega) (Or.inr ⟨_, rfl⟩) ?_ dX3_become_84
                  exact RowO.n (by unfold becomeR; (repeat (first | with_reducible refine ifp (by omega) ?_ | with_reducible refine ifn (by omega) ?_)); first | rfl | exact e_r_8)
          refine lv_iload_n hx hb dX3_become_44 rfl (lv_at hl 3 rfl) ?_
          refine xi_iconst hx hb dX3_become_45 ?_
          refine xi_icmp_ne (tgt := 64) hx hb dX3_become_46 (by decide) (by omega) (by omega) (fun c_46 => ?_) (fun c_46 => ?_)
          · skip
            exact L_64 (by omega) H0 [] 0 0 (by constructor <;> omega) kw hK hS ls (lv_sub hl [2, 3, 1, 0] rfl)
          · skip
            refine lv_iload_n hx hb dX3_become_49 rfl (lv_at hl 1 rfl) ?_
            refine xi_if_ne (tgt := 64) hx hb dX3_become_50 (by decide) (by omega) (fun c_50 => ?_) (fun c_50 => ?_)
            · skip
              exact L_64 (by omega) H0 [] 0 0 (by constructor <;> omega) kw hK hS ls (lv_sub hl [2, 3, 1, 0] rfl)
            · skip
              refine xi_iconst hx hb dX3_become_53 ?_
              refine xi_ldc2 (z := 2) hx hb S.2.2.2.1 S.2.2.2.2 q1264 (by decide +kernel) dX3_become_54 ?_
              refine lv_iload_n hx hb dX3_become_57 rfl (lv_at hl 0 rfl) ?_
              refine xi_i2l hx hb (by omega) dX3_become_58 ?_
              refine xi_lmul hx hb dX3_become_59 ?_
              refine x_c1S (as := [.int (iI (0)), .long (jI ((2) * ((a).2.1)))]) (rest := []) S hK (c_X3_ifOfSet l G H0 (0) ((2) * ((a).2.1)) (by omega) (by omega) ) q1261 q1262 q43 q1263 hdX3_ifOfSet ⟨by decide, by decide⟩ hl.1 rfl rfl (Nat.le_of_ble_eq_true rfl) ⟨Nat.le_of_ble_eq_true rfl, Nat.le_of_ble_eq_true rfl⟩ hS (fun _ z => z.elim) (fun q z => Or.inr z) dX3_become_60 (fun rv_c_9 H_c_9 locs hp_c_9 k_c_9 hS => ?_)
              have kw := kw.trans k_c_9
              have hK := hK.ext k_c_9
              rcases hp_c_9 with ⟨r_r_10, a_r_10, e_r_10, rfl, hq_r_10⟩ | ⟨e_r_10, rfl⟩
              · skip
                refine W.eq (g2 := F0 m 63 ls [.ref (a_r_10)]) rfl ?_
                refine x_ret1a hx hb hr hlk hH hS (by omega) (by omega) (Or.inr ⟨_, rfl⟩) ?_ dX3_become_63
                exact RowO.s (by unfold becomeR; (repeat (first | with_reducible refine ifp (by omega) ?_ | with_reducible refine ifn (by omega) ?_)); first | rfl | exact e_r_10) hq_r_10
              · skip
                refine W.eq (g2 := F0 m 63 ls [.null]) rfl ?_
                refine x_ret1N hx hb hr hlk hH hS (by omega) (by omega) (Or.inr ⟨_, rfl⟩) ?_ dX3_become_63
                exact RowO.n (by unfold becomeR; (repeat (first | with_reducible refine ifp (by omega) ?_ | with_reducible refine ifn (by omega) ?_)); first | rfl | exact e_r_10)
        · skip
          refine lv_iload_n hx hb dX3_become_38 rfl (lv_at hl 1 rfl) ?_
          refine lv_iload_n hx hb dX3_become_39 rfl (lv_at hl 0 rfl) ?_
          refine x_c1S (as := [.int (iI ((a).1)), .int (iI ((a).2.1))]) (rest := []) S hK (c_X3_cubed l G H0 ((a).1) ((a).2.1) (by omega) (by omega) (by omega) ) q1258 q1259 q43 q1260 hdX3_cubed ⟨by decide, by decide⟩ hl.1 rfl rfl (Nat.le_of_ble_eq_true rfl) ⟨Nat.le_of_ble_eq_true rfl, Nat.le_of_ble_eq_true rfl⟩ hS (fun _ z => z.elim) (fun q z => Or.inr z) dX3_become_40 (fun rv_c_11 H_c_11 locs hp_c_11 k_c_11 hS => ?_)
          have kw := kw.trans k_c_11
          have hK := hK.ext k_c_11
          rcases hp_c_11 with ⟨r_r_12, a_r_12, e_r_12, rfl, hq_r_12⟩ | ⟨e_r_12, rfl⟩
          · skip
            refine W.eq (g2 := F0 m 43 ls [.ref (a_r_12)]) rfl ?_
            refine x_ret1a hx hb hr hlk hH hS (by omega) (by omega) (Or.inr ⟨_, rfl⟩) ?_ dX3_become_43
            exact RowO.s (by unfold becomeR; (repeat (first | with_reducible refine ifp (by omega) ?_ | with_reducible refine ifn (by omega) ?_)); first | rfl | exact e_r_12) hq_r_12
          · skip
            refine W.eq (g2 := F0 m 43 ls [.null]) rfl ?_
            refine x_ret1N hx hb hr hlk hH hS (by omega) (by omega) (Or.inr ⟨_, rfl⟩) ?_ dX3_become_43
            exact RowO.n (by unfold becomeR; (repeat (first | with_reducible refine ifp (by omega) ?_ | with_reducible refine ifn (by omega) ?_)); first | rfl | exact e_r_12)
      · skip
        refine lv_iload_n hx hb dX3_become_27 rfl (lv_at hl 1 rfl) ?_
        refine lv_iload_n hx hb dX3_become_28 rfl (lv_at hl 0 rfl) ?_
        refine x_c1S (as := [.int (iI ((a).1)), .int (iI ((a).2.1))]) (rest := []) S hK (c_X3_rooted l G H0 ((a).1) ((a).2.1) (by omega) (by omega) ) q1251 q1252 q43 q1253 hdX3_rooted ⟨by decide, by decide⟩ hl.1 rfl rfl (Nat.le_of_ble_eq_true rfl) ⟨Nat.le_of_ble_eq_true rfl, Nat.le_of_ble_eq_true rfl⟩ hS (fun _ z => z.elim) (fun q z => Or.inr z) dX3_become_29 (fun rv_c_13 H_c_13 locs hp_c_13 k_c_13 hS => ?_)
        have kw := kw.trans k_c_13
        have hK := hK.ext k_c_13
        rcases hp_c_13 with ⟨r_r_14, a_r_14, e_r_14, rfl, hq_r_14⟩ | ⟨e_r_14, rfl⟩
        · skip
          refine W.eq (g2 := F0 m 32 ls [.ref (a_r_14)]) rfl ?_
          refine x_ret1a hx hb hr hlk hH hS (by omega) (by omega) (Or.inr ⟨_, rfl⟩) ?_ dX3_become_32
          exact RowO.s (by unfold becomeR; (repeat (first | with_reducible refine ifp (by omega) ?_ | with_reducible refine ifn (by omega) ?_)); first | rfl | exact e_r_14) hq_r_14
        · skip
          refine W.eq (g2 := F0 m 32 ls [.null]) rfl ?_
          refine x_ret1N hx hb hr hlk hH hS (by omega) (by omega) (Or.inr ⟨_, rfl⟩) ?_ dX3_become_32
          exact RowO.n (by unfold becomeR; (repeat (first | with_reducible refine ifp (by omega) ?_ | with_reducible refine ifn (by omega) ?_)); first | rfl | exact e_r_14)
    · skip
      refine lv_aload_n hx hb dX3_become_20 rfl (lv_at hl 2 rfl) ?_
      refine x_ret1a hx hb hr hlk hH hS (by omega) (by omega) (Or.inr ⟨_, rfl⟩) ?_ dX3_become_21
      exact RowO.s (by unfold becomeR; (repeat (first | with_reducible refine ifp (by omega) ?_ | with_reducible refine ifn (by omega) ?_)); first | rfl) fa

theorem hpX3_cubes : plainFor yX3_cubes = true := by decide +kernel
theorem hdX3_cubes : nMH yX3_cubes 1 := by decide +kernel
set_option maxHeartbeats 4000000 in
theorem c_X3_cubes (l : Launch) (G : GG) (H0 : Heap) (n : Int) (r_n : -2147483648 ≤ n ∧ n < 2147483648) (hn : -100000 ≤ n ∧ n ≤ 100000) : Ct0 l G yX3_cubes cX3_cubes 3 (Option.some Jvm.ClassFile.FieldType.int) 0 0 [.int (iI (n))] H0 (.int (iI (cubesZ n))) := by
  refine Ct0.start hpX3_cubes (Nat.le_of_ble_eq_true rfl) ?_
  intro p e s m below meth c ls hx hb hr S hlk hH hK hl
  have hl : lv_has ls 3 [(0, .int (iI (n)))] := hl
  have L_4 : ∀ (n_ : Nat) (a : Int) (k : Int) (h1 : 1 ≤ a ∧ a ≤ 47 ∧ k = a - 1) (h2 : a = 1 ∨ (a - 1) * (a - 1) * (a - 1) ≤ n)  (hm_ : ((48 : Int) - a).toNat < n_) (ls : Array Slot) (hl : lv_has ls 3 [(2, .int (iI (a))), (1, .int (iI (k))), (0, .int (iI (n)))]), W p l e { frames := 0, cells := 0, slots := 0, locals := 0 } s m ([.int (iI (n))] : List Value).toArray below meth c H0 [] 0 0 (MQ below (k2_QcV (.int (iI (cubesZ n)))) ([.int (iI (n))] : List Value).toArray s 0 0 (fun _ => False)) (F0 m 4 ls []) := by
    intro n_
    induction n_ with
    | zero =>
      intro a k h1 h2 hm_ ls hl
      exact absurd hm_ (Nat.not_lt_zero _)
    | succ n_ ih =>
      intro a k h1 h2 hm_ ls hl
      refine lv_iload_n hx hb dX3_cubes_4 rfl (lv_at hl 0 rfl) ?_
      refine lv_iload_n hx hb dX3_cubes_5 rfl (lv_at hl 0 rfl) ?_
      refine xi_imul hx hb dX3_cubes_6 ?_
      refine lv_iload_n hx hb dX3_cubes_7 rfl (lv_at hl 0 rfl) ?_
      refine xi_imul hx hb dX3_cubes_8 ?_
      refine xi_name (fun cu e_cu => ?_)
      have cu_ := cubeB (a := a) (A := 47) (by omega)
      have hcu : cu = a * a * a := e_cu
      refine lv_iload_n hx hb dX3_cubes_9 rfl (lv_at hl 2 rfl) ?_
      refine xi_icmp_gt (tgt := 22) hx hb dX3_cubes_10 (by decide) (by omega) (by omega) (fun c_10 => ?_) (fun c_10 => ?_)
      · skip
        refine lv_iload_n hx hb dX3_cubes_22 rfl (lv_at hl 1 rfl) ?_
        exact x_ret0i hx hb hr hlk hH (by exact cubesZ_of (by omega) (by rcases h2 with h2 | h2; exact Or.inl (by omega); exact Or.inr (by rw [show k = a - 1 by omega]; exact h2)) (by rw [show k + 1 = a by omega]; omega)) dX3_cubes_23
      · skip
        refine xi_iinc (lv' := [(1, .int (iI (k + 1))), (2, .int (iI (a))), (0, .int (iI (n)))]) hx hb dX3_cubes_13 hl (k := 1) rfl (by decide) rfl (fun ls hl => ?_)
        refine xi_iinc (lv' := [(2, .int (iI (a + 1))), (1, .int (iI (k + 1))), (0, .int (iI (n)))]) hx hb dX3_cubes_16 hl (k := 1) rfl (by decide) rfl (fun ls hl => ?_)
        refine lv_goto (tgt := 4) hx hb dX3_cubes_19 (by decide) ?_
        exact ih (a + 1) (k + 1) (by (first | omega | (have := cube_le (a := 47) (b := a); omega))) (by (first | exact Or.inl rfl | exact Or.inr (by rw [show a + 1 - 1 = a by omega]; omega))) (by first | omega | (have := cube_le (a := 47) (b := a); omega)) ls (lv_sub hl [0, 1, 2] rfl)
  refine xi_iconst hx hb dX3_cubes_0 ?_
  refine lv_istore_n (lv' := [(1, .int (iI (0))), (0, .int (iI (n)))]) hx hb dX3_cubes_1 rfl hl (by decide) rfl (fun ls hl => ?_)
  refine xi_iconst hx hb dX3_cubes_2 ?_
  refine lv_istore_n (lv' := [(2, .int (iI (1))), (1, .int (iI (0))), (0, .int (iI (n)))]) hx hb dX3_cubes_3 rfl hl (by decide) rfl (fun ls hl => ?_)
  exact L_4 ((((48 : Int) - (1)).toNat) + 1) (1) (0) (by (first | omega | (have := cube_le (a := 47) (b := a); omega))) (by (first | exact Or.inl rfl | exact Or.inr (by rw [show a + 1 - 1 = a by omega]; omega))) (by first | omega | (have := cube_le (a := 47) (b := a); omega)) ls (lv_sub hl [0, 1, 2] rfl)

