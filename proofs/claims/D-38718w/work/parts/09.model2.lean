set_option maxRecDepth 100000
theorem hpX3_isNoNumber : plainFor yX3_isNoNumber = true := by decide +kernel
theorem hdX3_isNoNumber : nMH yX3_isNoNumber 1 := by decide +kernel
set_option maxHeartbeats 4000000 in
theorem c_X3_isNoNumber (l : Launch) (G : GG) (H0 : Heap) (mc : Nat) (th : Int) (ac : Int) (no : Int) (kn : Int) (cc : Nat → Row) (h : Nat) (k : Int) (r_k : -2147483648 ≤ k ∧ k < 2147483648) (hac : 0 ≤ ac ∧ ac ≤ 1000) (hno : 0 ≤ no ∧ no ≤ 1000) (hkn : 0 ≤ kn ∧ kn ≤ 1000) (hok : ∀ k : Nat, k < 8 → okR (cc k)) (hk : 0 ≤ k ∧ k ≤ 7) (hw : MW G (h) (mc) (th) (ac) (no) (kn) (cc) H0) : Ct0 l G yX3_isNoNumber cX3_isNoNumber 2 (Option.some Jvm.ClassFile.FieldType.boolean) 0 0 [.ref (h), .int (iI (k))] H0 (.int (iI (b2i ((cc k.toNat).1 ≠ 0 ∧ (cc k.toNat).1 ≠ 2)))) := by
  refine Ct0.start hpX3_isNoNumber (Nat.le_of_ble_eq_true rfl) ?_
  intro p e s m below meth c ls hx hb hr S hlk hH hK hl
  have hl : lv_has ls 2 [(0, .ref (h)), (1, .int (iI (k)))] := hl
  have hbc : ∀ k : Nat, k < 8 → bRow (cc k) := fun k h => okR_b (hok k h)
  have hb1 := hbc k.toNat (by omega)
  refine lv_aload_n hx hb dX3_isNoNumber_0 rfl (lv_at hl 0 rfl) ?_
  have hw_o_1 := hw
  obtain ⟨rb_o_1, hm_o_1, hq_o_1, hr_o_1, hza_o_1, hzc_o_1⟩ := hw_o_1
  refine x_get S hK in_X3 hm_o_1 rfl 4 (by decide) q1152 (fun x h => h) rfl dX3_isNoNumber_1 ?_
  refine lv_iload_n hx hb dX3_isNoNumber_4 rfl (lv_at hl 1 rfl) ?_
  refine x_aald S hK 3 rfl rfl hq_o_1 (by omega) (by omega) rfl dX3_isNoNumber_5 ?_
  have hr_w_2 := hr_o_1 (k).toNat (by omega)
  have hbw_w_2 := hbc (k).toNat (by omega)
  refine xi_iconst hx hb dX3_isNoNumber_6 ?_
  refine x_iald (w := (cc (k).toNat).1) S hK hr_w_2 (by omega) (by decide) rfl dX3_isNoNumber_7 ?_
  refine xi_if_eq (tgt := 27) hx hb dX3_isNoNumber_8 (by decide) (by omega) (fun c_8 => ?_) (fun c_8 => ?_)
  · skip
    refine xi_iconst hx hb dX3_isNoNumber_27 ?_
    exact x_ret0z hx hb hr hlk hH (by exact b2i_0 (by omega)) dX3_isNoNumber_28
  · skip
    refine lv_aload_n hx hb dX3_isNoNumber_11 rfl (lv_at hl 0 rfl) ?_
    refine x_get S hK in_X3 hm_o_1 rfl 4 (by decide) q1152 (fun x h => h) rfl dX3_isNoNumber_12 ?_
    refine lv_iload_n hx hb dX3_isNoNumber_15 rfl (lv_at hl 1 rfl) ?_
    refine x_aald S hK 3 rfl rfl hq_o_1 (by omega) (by omega) rfl dX3_isNoNumber_16 ?_
    refine xi_iconst hx hb dX3_isNoNumber_17 ?_
    refine x_iald (w := (cc (k).toNat).1) S hK hr_w_2 (by omega) (by decide) rfl dX3_isNoNumber_18 ?_
    refine xi_iconst hx hb dX3_isNoNumber_19 ?_
    refine xi_icmp_eq (tgt := 27) hx hb dX3_isNoNumber_20 (by decide) (by omega) (by omega) (fun c_20 => ?_) (fun c_20 => ?_)
    · skip
      refine xi_iconst hx hb dX3_isNoNumber_27 ?_
      exact x_ret0z hx hb hr hlk hH (by exact b2i_0 (by omega)) dX3_isNoNumber_28
    · skip
      refine xi_iconst hx hb dX3_isNoNumber_23 ?_
      refine lv_goto (tgt := 28) hx hb dX3_isNoNumber_24 (by decide) ?_
      exact x_ret0z hx hb hr hlk hH (by exact b2i_1 (by omega)) dX3_isNoNumber_28

theorem hpX3_isNotKept : plainFor yX3_isNotKept = true := by decide +kernel
theorem hdX3_isNotKept : nMH yX3_isNotKept 1 := by decide +kernel
set_option maxHeartbeats 4000000 in
theorem c_X3_isNotKept (l : Launch) (G : GG) (H0 : Heap) (mc : Nat) (th : Int) (ac : Int) (no : Int) (kn : Int) (cc : Nat → Row) (h : Nat) (k : Int) (r_k : -2147483648 ≤ k ∧ k < 2147483648) (hac : 0 ≤ ac ∧ ac ≤ 1000) (hno : 0 ≤ no ∧ no ≤ 1000) (hkn : 0 ≤ kn ∧ kn ≤ 1000) (hok : ∀ k : Nat, k < 8 → okR (cc k)) (hk : 0 ≤ k ∧ k ≤ 7) (hw : MW G (h) (mc) (th) (ac) (no) (kn) (cc) H0) : Ct0 l G yX3_isNotKept cX3_isNotKept 2 (Option.some Jvm.ClassFile.FieldType.boolean) 0 0 [.ref (h), .int (iI (k))] H0 (.int (iI (b2i (1 < (cc k.toNat).1)))) := by
  refine Ct0.start hpX3_isNotKept (Nat.le_of_ble_eq_true rfl) ?_
  intro p e s m below meth c ls hx hb hr S hlk hH hK hl
  have hl : lv_has ls 2 [(0, .ref (h)), (1, .int (iI (k)))] := hl
  have hbc : ∀ k : Nat, k < 8 → bRow (cc k) := fun k h => okR_b (hok k h)
  have hb1 := hbc k.toNat (by omega)
  refine lv_aload_n hx hb dX3_isNotKept_0 rfl (lv_at hl 0 rfl) ?_
  have hw_o_1 := hw
  obtain ⟨rb_o_1, hm_o_1, hq_o_1, hr_o_1, hza_o_1, hzc_o_1⟩ := hw_o_1
  refine x_get S hK in_X3 hm_o_1 rfl 4 (by decide) q1152 (fun x h => h) rfl dX3_isNotKept_1 ?_
  refine lv_iload_n hx hb dX3_isNotKept_4 rfl (lv_at hl 1 rfl) ?_
  refine x_aald S hK 3 rfl rfl hq_o_1 (by omega) (by omega) rfl dX3_isNotKept_5 ?_
  have hr_w_2 := hr_o_1 (k).toNat (by omega)
  have hbw_w_2 := hbc (k).toNat (by omega)
  refine xi_iconst hx hb dX3_isNotKept_6 ?_
  refine x_iald (w := (cc (k).toNat).1) S hK hr_w_2 (by omega) (by decide) rfl dX3_isNotKept_7 ?_
  refine xi_iconst hx hb dX3_isNotKept_8 ?_
  refine xi_icmp_le (tgt := 16) hx hb dX3_isNotKept_9 (by decide) (by omega) (by omega) (fun c_9 => ?_) (fun c_9 => ?_)
  · skip
    refine xi_iconst hx hb dX3_isNotKept_16 ?_
    exact x_ret0z hx hb hr hlk hH (by exact b2i_0 (by omega)) dX3_isNotKept_17
  · skip
    refine xi_iconst hx hb dX3_isNotKept_12 ?_
    refine lv_goto (tgt := 17) hx hb dX3_isNotKept_13 (by decide) ?_
    exact x_ret0z hx hb hr hlk hH (by exact b2i_1 (by omega)) dX3_isNotKept_17

theorem hpX3_isFlat : plainFor yX3_isFlat = true := by decide +kernel
theorem hdX3_isFlat : nMH yX3_isFlat 1 := by decide +kernel
set_option maxHeartbeats 4000000 in
theorem c_X3_isFlat (l : Launch) (G : GG) (H0 : Heap) (mc : Nat) (th : Int) (ac : Int) (no : Int) (kn : Int) (cc : Nat → Row) (h : Nat) (k : Int) (r_k : -2147483648 ≤ k ∧ k < 2147483648) (hac : 0 ≤ ac ∧ ac ≤ 1000) (hno : 0 ≤ no ∧ no ≤ 1000) (hkn : 0 ≤ kn ∧ kn ≤ 1000) (hok : ∀ k : Nat, k < 8 → okR (cc k)) (hk : 0 ≤ k ∧ k ≤ 7) (hw : MW G (h) (mc) (th) (ac) (no) (kn) (cc) H0) : Ct0 l G yX3_isFlat cX3_isFlat 2 (Option.some Jvm.ClassFile.FieldType.boolean) 1 21 [.ref (h), .int (iI (k))] H0 (.int (iI (b2i (((cc k.toNat).1 ≠ 0 ∧ (cc k.toNat).1 ≠ 2) ∨ zeroR (cc k.toNat))))) := by
  refine Ct0.start hpX3_isFlat (Nat.le_of_ble_eq_true rfl) ?_
  intro p e s m below meth c ls hx hb hr S hlk hH hK hl
  have hl : lv_has ls 2 [(0, .ref (h)), (1, .int (iI (k)))] := hl
  have hbc : ∀ k : Nat, k < 8 → bRow (cc k) := fun k h => okR_b (hok k h)
  refine lv_aload_n hx hb dX3_isFlat_0 rfl (lv_at hl 0 rfl) ?_
  refine lv_iload_n hx hb dX3_isFlat_1 rfl (lv_at hl 1 rfl) ?_
  have hw_o_1 := hw
  obtain ⟨rb_o_1, hm_o_1, hq_o_1, hr_o_1, hza_o_1, hzc_o_1⟩ := hw_o_1
  refine x_c0V (as := [.int (iI (k))]) (rest := []) S hK hm_o_1 rfl rfl (c_X3_isNoNumber l G H0 (mc) (th) (ac) (no) (kn) (cc) (h) (k) (by omega) (by first | assumption | omega) (by first | assumption | omega) (by first | assumption | omega) (by assumption) (by omega) hw) q1329 q1331 qs15 q43 q1332 hdX3_isNoNumber ⟨by decide, by decide⟩ hl.1 rfl rfl (Nat.le_of_ble_eq_true rfl) ⟨Nat.le_of_ble_eq_true rfl, Nat.le_of_ble_eq_true rfl⟩ dX3_isFlat_2 ?_
  refine xi_ifb_ne (tgt := 20) hx hb dX3_isFlat_5 (by decide) (fun c_5 => ?_) (fun c_5 => ?_)
  · skip
    refine xi_iconst hx hb dX3_isFlat_20 ?_
    refine lv_goto (tgt := 25) hx hb dX3_isFlat_21 (by decide) ?_
    exact x_ret0z hx hb hr hlk hH (by exact b2i_1 (by omega)) dX3_isFlat_25
  · skip
    refine lv_aload_n hx hb dX3_isFlat_8 rfl (lv_at hl 0 rfl) ?_
    refine x_get S hK in_X3 hm_o_1 rfl 4 (by decide) q1152 (fun x h => h) rfl dX3_isFlat_9 ?_
    refine lv_iload_n hx hb dX3_isFlat_12 rfl (lv_at hl 1 rfl) ?_
    refine x_aald S hK 3 rfl rfl hq_o_1 (by omega) (by omega) rfl dX3_isFlat_13 ?_
    have hr_w_2 := hr_o_1 (k).toNat (by omega)
    have hbw_w_2 := hbc (k).toNat (by omega)
    refine x_c0S (as := [.ref ((rb_o_1) ((k).toNat))]) (rest := []) S hK (c_X3_isZero l G H0 (cc (k).toNat) ((rb_o_1) ((k).toNat)) (by first | assumption | (apply hbc; omega)) hr_w_2) q1248 q1249 q43 q1250 hdX3_isZero ⟨by decide, by decide⟩ hl.1 rfl rfl (Nat.le_of_ble_eq_true rfl) ⟨Nat.le_of_ble_eq_true rfl, Nat.le_of_ble_eq_true rfl⟩ dX3_isFlat_14 ?_
    refine xi_ifb_eq (tgt := 24) hx hb dX3_isFlat_17 (by decide) (fun c_17 => ?_) (fun c_17 => ?_)
    · skip
      refine xi_iconst hx hb dX3_isFlat_24 ?_
      exact x_ret0z hx hb hr hlk hH (by exact b2i_0 (by omega)) dX3_isFlat_25
    · skip
      refine xi_iconst hx hb dX3_isFlat_20 ?_
      refine lv_goto (tgt := 25) hx hb dX3_isFlat_21 (by decide) ?_
      exact x_ret0z hx hb hr hlk hH (by exact b2i_1 (by omega)) dX3_isFlat_25

theorem hpX3_areNoCells : plainFor yX3_areNoCells = true := by decide +kernel
theorem hdX3_areNoCells : nMH yX3_areNoCells 2 := by decide +kernel
set_option maxHeartbeats 4000000 in
theorem c_X3_areNoCells (l : Launch) (G : GG) (H0 : Heap) (h : Nat) (i : Int) (j : Int) (r_i : -2147483648 ≤ i ∧ i < 2147483648) (r_j : -2147483648 ≤ j ∧ j < 2147483648) : Ct0 l G yX3_areNoCells cX3_areNoCells 3 (Option.some Jvm.ClassFile.FieldType.boolean) 2 45 [.ref (h), .int (iI (i)), .int (iI (j))] H0 (.int (iI (b2i (¬ (0 ≤ i ∧ i ≤ 7) ∨ ¬ (0 ≤ j ∧ j ≤ 7))))) := by
  refine Ct0.start hpX3_areNoCells (Nat.le_of_ble_eq_true rfl) ?_
  intro p e s m below meth c ls hx hb hr S hlk hH hK hl
  have hl : lv_has ls 3 [(0, .ref (h)), (1, .int (iI (i))), (2, .int (iI (j)))] := hl
  refine lv_iload_n hx hb dX3_areNoCells_0 rfl (lv_at hl 1 rfl) ?_
  refine x_c0S (as := [.int (iI (i))]) (rest := []) S hK (c_X3_isNoCell l G H0 (i) (by omega) ) q1173 q1174 q43 q1175 hdX3_isNoCell ⟨by decide, by decide⟩ hl.1 rfl rfl (Nat.le_of_ble_eq_true rfl) ⟨Nat.le_of_ble_eq_true rfl, Nat.le_of_ble_eq_true rfl⟩ dX3_areNoCells_1 ?_
  refine xi_ifb_ne (tgt := 14) hx hb dX3_areNoCells_4 (by decide) (fun c_4 => ?_) (fun c_4 => ?_)
  · skip
    refine xi_iconst hx hb dX3_areNoCells_14 ?_
    refine lv_goto (tgt := 19) hx hb dX3_areNoCells_15 (by decide) ?_
    exact x_ret0z hx hb hr hlk hH (by exact b2i_1 (by omega)) dX3_areNoCells_19
  · skip
    refine lv_iload_n hx hb dX3_areNoCells_7 rfl (lv_at hl 2 rfl) ?_
    refine x_c0S (as := [.int (iI (j))]) (rest := []) S hK (c_X3_isNoCell l G H0 (j) (by omega) ) q1173 q1174 q43 q1175 hdX3_isNoCell ⟨by decide, by decide⟩ hl.1 rfl rfl (Nat.le_of_ble_eq_true rfl) ⟨Nat.le_of_ble_eq_true rfl, Nat.le_of_ble_eq_true rfl⟩ dX3_areNoCells_8 ?_
    refine xi_ifb_eq (tgt := 18) hx hb dX3_areNoCells_11 (by decide) (fun c_11 => ?_) (fun c_11 => ?_)
    · skip
      refine xi_iconst hx hb dX3_areNoCells_18 ?_
      exact x_ret0z hx hb hr hlk hH (by exact b2i_0 (by omega)) dX3_areNoCells_19
    · skip
      refine xi_iconst hx hb dX3_areNoCells_14 ?_
      refine lv_goto (tgt := 19) hx hb dX3_areNoCells_15 (by decide) ?_
      exact x_ret0z hx hb hr hlk hH (by exact b2i_1 (by omega)) dX3_areNoCells_19

theorem hpX3_thrown : plainFor yX3_thrown = true := by decide +kernel
theorem hdX3_thrown : nMH yX3_thrown 0 := by decide +kernel
set_option maxHeartbeats 4000000 in
theorem c_X3_thrown (l : Launch) (G : GG) (H0 : Heap) (mc : Nat) (th : Int) (ac : Int) (no : Int) (kn : Int) (cc : Nat → Row) (h : Nat) (hac : 0 ≤ ac ∧ ac ≤ 1000) (hno : 0 ≤ no ∧ no ≤ 1000) (hkn : 0 ≤ kn ∧ kn ≤ 1000) (hok : ∀ k : Nat, k < 8 → okR (cc k)) (hth : 0 ≤ th ∧ th ≤ 10) (hw : MW G (h) (mc) (th) (ac) (no) (kn) (cc) H0) : Ct0 l G yX3_thrown cX3_thrown 1 (Option.some Jvm.ClassFile.FieldType.int) 0 0 [.ref (h)] H0 (.int (iI (th))) := by
  refine Ct0.start hpX3_thrown (Nat.le_of_ble_eq_true rfl) ?_
  intro p e s m below meth c ls hx hb hr S hlk hH hK hl
  have hl : lv_has ls 1 [(0, .ref (h))] := hl
  have hbc : ∀ k : Nat, k < 8 → bRow (cc k) := fun k h => okR_b (hok k h)
  refine lv_aload_n hx hb dX3_thrown_0 rfl (lv_at hl 0 rfl) ?_
  have hw_o_1 := hw
  obtain ⟨rb_o_1, hm_o_1, hq_o_1, hr_o_1, hza_o_1, hzc_o_1⟩ := hw_o_1
  refine x_get S hK in_X3 hm_o_1 rfl 0 (by decide) q1148 (fun x h => h) rfl dX3_thrown_1 ?_
  exact x_ret0i hx hb hr hlk hH (by first | rfl | omega | exact b2i_1 (by assumption) | exact b2i_0 (by assumption)) dX3_thrown_4

theorem hpX3_orderTold : plainFor yX3_orderTold = true := by decide +kernel
theorem hdX3_orderTold : nMH yX3_orderTold 2 := by decide +kernel
set_option maxHeartbeats 4000000 in
theorem c_X3_orderTold (l : Launch) (G : GG) (H0 : Heap) (mc : Nat) (th : Int) (ac : Int) (no : Int) (kn : Int) (cc : Nat → Row) (h : Nat) (i : Int) (j : Int) (r_i : -2147483648 ≤ i ∧ i < 2147483648) (r_j : -2147483648 ≤ j ∧ j < 2147483648) (hac : 0 ≤ ac ∧ ac ≤ 1000) (hno : 0 ≤ no ∧ no ≤ 1000) (hkn : 0 ≤ kn ∧ kn ≤ 1000) (hok : ∀ k : Nat, k < 8 → okR (cc k)) (hi : 0 ≤ i ∧ i ≤ 7) (hj : 0 ≤ j ∧ j ≤ 7) (hw : MW G (h) (mc) (th) (ac) (no) (kn) (cc) H0) : Ct0 l G yX3_orderTold cX3_orderTold 3 (Option.some Jvm.ClassFile.FieldType.int) 2 41 [.ref (h), .int (iI (i)), .int (iI (j))] H0 (.int (iI (if aheadR (cc i.toNat) (cc j.toNat) then -1 else if aheadR (cc j.toNat) (cc i.toNat) then 1 else if nearR (cc i.toNat) (cc j.toNat) then 2 else 0))) := by
  refine Ct0.start hpX3_orderTold (Nat.le_of_ble_eq_true rfl) ?_
  intro p e s m below meth c ls hx hb hr S hlk hH hK hl
  have hl : lv_has ls 3 [(0, .ref (h)), (1, .int (iI (i))), (2, .int (iI (j)))] := hl
  have hbc : ∀ k : Nat, k < 8 → bRow (cc k) := fun k h => okR_b (hok k h)
  refine lv_aload_n hx hb dX3_orderTold_0 rfl (lv_at hl 0 rfl) ?_
  have hw_o_1 := hw
  obtain ⟨rb_o_1, hm_o_1, hq_o_1, hr_o_1, hza_o_1, hzc_o_1⟩ := hw_o_1
  refine x_get S hK in_X3 hm_o_1 rfl 4 (by decide) q1152 (fun x h => h) rfl dX3_orderTold_1 ?_
  refine lv_iload_n hx hb dX3_orderTold_4 rfl (lv_at hl 1 rfl) ?_
  refine x_aald S hK 3 rfl rfl hq_o_1 (by omega) (by omega) rfl dX3_orderTold_5 ?_
  have hr_w_2 := hr_o_1 (i).toNat (by omega)
  have hbw_w_2 := hbc (i).toNat (by omega)
  refine lv_aload_n hx hb dX3_orderTold_6 rfl (lv_at hl 0 rfl) ?_
  refine x_get S hK in_X3 hm_o_1 rfl 4 (by decide) q1152 (fun x h => h) rfl dX3_orderTold_7 ?_
  refine lv_iload_n hx hb dX3_orderTold_10 rfl (lv_at hl 2 rfl) ?_
  refine x_aald S hK 3 rfl rfl hq_o_1 (by omega) (by omega) rfl dX3_orderTold_11 ?_
  have hr_w_3 := hr_o_1 (j).toNat (by omega)
  have hbw_w_3 := hbc (j).toNat (by omega)
  refine x_c0S (as := [.ref ((rb_o_1) ((i).toNat)), .ref ((rb_o_1) ((j).toNat))]) (rest := []) S hK (c_X3_isAhead l G H0 (cc (i).toNat) (cc (j).toNat) ((rb_o_1) ((i).toNat)) ((rb_o_1) ((j).toNat)) (by first | assumption | (apply hbc; omega)) (by first | assumption | (apply hbc; omega)) hr_w_2 hr_w_3) q1294 q1295 q43 q1296 hdX3_isAhead ⟨by decide, by decide⟩ hl.1 rfl rfl (Nat.le_of_ble_eq_true rfl) ⟨Nat.le_of_ble_eq_true rfl, Nat.le_of_ble_eq_true rfl⟩ dX3_orderTold_12 ?_
  refine xi_ifb_eq (tgt := 20) hx hb dX3_orderTold_15 (by decide) (fun c_15 => ?_) (fun c_15 => ?_)
  · skip
    refine lv_aload_n hx hb dX3_orderTold_20 rfl (lv_at hl 0 rfl) ?_
    refine x_get S hK in_X3 hm_o_1 rfl 4 (by decide) q1152 (fun x h => h) rfl dX3_orderTold_21 ?_
    refine lv_iload_n hx hb dX3_orderTold_24 rfl (lv_at hl 2 rfl) ?_
    refine x_aald S hK 3 rfl rfl hq_o_1 (by omega) (by omega) rfl dX3_orderTold_25 ?_
    refine lv_aload_n hx hb dX3_orderTold_26 rfl (lv_at hl 0 rfl) ?_
    refine x_get S hK in_X3 hm_o_1 rfl 4 (by decide) q1152 (fun x h => h) rfl dX3_orderTold_27 ?_
    refine lv_iload_n hx hb dX3_orderTold_30 rfl (lv_at hl 1 rfl) ?_
    refine x_aald S hK 3 rfl rfl hq_o_1 (by omega) (by omega) rfl dX3_orderTold_31 ?_
    refine x_c0S (as := [.ref ((rb_o_1) ((j).toNat)), .ref ((rb_o_1) ((i).toNat))]) (rest := []) S hK (c_X3_isAhead l G H0 (cc (j).toNat) (cc (i).toNat) ((rb_o_1) ((j).toNat)) ((rb_o_1) ((i).toNat)) (by first | assumption | (apply hbc; omega)) (by first | assumption | (apply hbc; omega)) hr_w_3 hr_w_2) q1294 q1295 q43 q1296 hdX3_isAhead ⟨by decide, by decide⟩ hl.1 rfl rfl (Nat.le_of_ble_eq_true rfl) ⟨Nat.le_of_ble_eq_true rfl, Nat.le_of_ble_eq_true rfl⟩ dX3_orderTold_32 ?_
    refine xi_ifb_eq (tgt := 40) hx hb dX3_orderTold_35 (by decide) (fun c_35 => ?_) (fun c_35 => ?_)
    · skip
      refine lv_aload_n hx hb dX3_orderTold_40 rfl (lv_at hl 0 rfl) ?_
      refine x_get S hK in_X3 hm_o_1 rfl 4 (by decide) q1152 (fun x h => h) rfl dX3_orderTold_41 ?_
      refine lv_iload_n hx hb dX3_orderTold_44 rfl (lv_at hl 1 rfl) ?_
      refine x_aald S hK 3 rfl rfl hq_o_1 (by omega) (by omega) rfl dX3_orderTold_45 ?_
      refine lv_aload_n hx hb dX3_orderTold_46 rfl (lv_at hl 0 rfl) ?_
      refine x_get S hK in_X3 hm_o_1 rfl 4 (by decide) q1152 (fun x h => h) rfl dX3_orderTold_47 ?_
      refine lv_iload_n hx hb dX3_orderTold_50 rfl (lv_at hl 2 rfl) ?_
      refine x_aald S hK 3 rfl rfl hq_o_1 (by omega) (by omega) rfl dX3_orderTold_51 ?_
      refine x_c0S (as := [.ref ((rb_o_1) ((i).toNat)), .ref ((rb_o_1) ((j).toNat))]) (rest := []) S hK (c_X3_isNear l G H0 (cc (i).toNat) (cc (j).toNat) ((rb_o_1) ((i).toNat)) ((rb_o_1) ((j).toNat)) (by first | assumption | (apply hbc; omega)) (by first | assumption | (apply hbc; omega)) hr_w_2 hr_w_3) q1698 q1699 q43 q1700 hdX3_isNear ⟨by decide, by decide⟩ hl.1 rfl rfl (Nat.le_of_ble_eq_true rfl) ⟨Nat.le_of_ble_eq_true rfl, Nat.le_of_ble_eq_true rfl⟩ dX3_orderTold_52 ?_
      refine xi_ifb_eq (tgt := 62) hx hb dX3_orderTold_55 (by decide) (fun c_55 => ?_) (fun c_55 => ?_)
      · skip
        refine xi_iconst hx hb dX3_orderTold_62 ?_
        exact x_ret0i hx hb hr hlk hH (by ((repeat (first | with_reducible refine ifp (by assumption) ?_ | with_reducible refine ifn (by assumption) ?_))); rfl) dX3_orderTold_63
      · skip
        refine xi_iconst hx hb dX3_orderTold_58 ?_
        refine lv_goto (tgt := 63) hx hb dX3_orderTold_59 (by decide) ?_
        exact x_ret0i hx hb hr hlk hH (by ((repeat (first | with_reducible refine ifp (by assumption) ?_ | with_reducible refine ifn (by assumption) ?_))); rfl) dX3_orderTold_63
    · skip
      refine xi_iconst hx hb dX3_orderTold_38 ?_
      exact x_ret0i hx hb hr hlk hH (by ((repeat (first | with_reducible refine ifp (by assumption) ?_ | with_reducible refine ifn (by assumption) ?_))); rfl) dX3_orderTold_39
  · skip
    refine xi_iconst hx hb dX3_orderTold_18 ?_
    exact x_ret0i hx hb hr hlk hH (by ((repeat (first | with_reducible refine ifp (by assumption) ?_ | with_reducible refine ifn (by assumption) ?_))); rfl) dX3_orderTold_19

theorem hpX3_many : plainFor yX3_many = true := by decide +kernel
theorem hdX3_many : nMH yX3_many 2 := by decide +kernel
set_option maxHeartbeats 4000000 in
theorem c_X3_many (l : Launch) (G : GG) (H0 : Heap) (mc : Nat) (th : Int) (ac : Int) (no : Int) (kn : Int) (cc : Nat → Row) (h : Nat) (k : Int) (P : Prop) [Decidable P] (r_k : -2147483648 ≤ k ∧ k < 2147483648) (hac : 0 ≤ ac ∧ ac ≤ 1000) (hno : 0 ≤ no ∧ no ≤ 1000) (hkn : 0 ≤ kn ∧ kn ≤ 1000) (hok : ∀ k : Nat, k < 8 → okR (cc k)) (hk : 0 ≤ k ∧ k ≤ 7) (hw : MW G (h) (mc) (th) (ac) (no) (kn) (cc) H0) : Ct0 l G yX3_many cX3_many 5 (Option.some Jvm.ClassFile.FieldType.int) 2 41 [.ref (h), .int (iI (k)), .int (iI (b2i (P)))] H0 (.int (iI (if P then cntZ (fun j => b2i (aheadR (cc k.toNat) (cc j))) 8 else cntZ (fun j => b2i (aheadR (cc j) (cc k.toNat))) 8))) := by
  refine Ct0.start hpX3_many (Nat.le_of_ble_eq_true rfl) ?_
  intro p e s m below meth c ls hx hb hr S hlk hH hK hl
  have hl : lv_has ls 5 [(0, .ref (h)), (1, .int (iI (k))), (2, .int (iI (b2i (P))))] := hl
  have hbc : ∀ k : Nat, k < 8 → bRow (cc k) := fun k h => okR_b (hok k h)
  have L_5 : ∀ (n_ : Nat) (j : Int) (mm : Int) (hj : 0 ≤ j ∧ j ≤ 8) (hmm : mm = if P then cntZ (fun j => b2i (aheadR (cc k.toNat) (cc j))) j.toNat else cntZ (fun j => b2i (aheadR (cc j) (cc k.toNat))) j.toNat) (hm2 : 0 ≤ mm ∧ mm ≤ j)  (hm_ : ((8 : Int) - j).toNat < n_) (ls : Array Slot) (hl : lv_has ls 5 [(4, .int (iI (j))), (3, .int (iI (mm))), (0, .ref (h)), (1, .int (iI (k))), (2, .int (iI (b2i (P))))]), W p l e { frames := 2, cells := 0, slots := 0, locals := 41 } s m ([.ref (h), .int (iI (k)), .int (iI (b2i (P)))] : List Value).toArray below meth c H0 [] 0 0 (MQ below (k2_QcV (.int (iI (if P then cntZ (fun j => b2i (aheadR (cc k.toNat) (cc j))) 8 else cntZ (fun j => b2i (aheadR (cc j) (cc k.toNat))) 8)))) ([.ref (h), .int (iI (k)), .int (iI (b2i (P)))] : List Value).toArray s 0 0 (fun _ => False)) (F0 m 5 ls []) := by
    intro n_
    induction n_ with
    | zero =>
      intro j mm hj hmm hm2 hm_ ls hl
      exact absurd hm_ (Nat.not_lt_zero _)
    | succ n_ ih =>
      intro j mm hj hmm hm2 hm_ ls hl
      refine lv_iload hx hb dX3_many_5 (lv_at hl 0 rfl) ?_
      refine xi_bipush hx hb (by decide) dX3_many_7 ?_
      refine xi_icmp_ge (tgt := 63) hx hb dX3_many_9 (by decide) (by omega) (by omega) (fun c_9 => ?_) (fun c_9 => ?_)
      · skip
        refine lv_iload_n hx hb dX3_many_63 rfl (lv_at hl 1 rfl) ?_
        exact x_ret0i hx hb hr hlk hH (by rw [hmm, show j.toNat = 8 by omega]) dX3_many_64
      · skip
        refine lv_iload_n hx hb dX3_many_12 rfl (lv_at hl 1 rfl) ?_
        refine lv_iload_n hx hb dX3_many_13 rfl (lv_at hl 4 rfl) ?_
        refine xi_ifb_eq (tgt := 36) hx hb dX3_many_14 (by decide) (fun c_14 => ?_) (fun c_14 => ?_)
        · skip
          refine lv_aload_n hx hb dX3_many_36 rfl (lv_at hl 2 rfl) ?_
          have hw_o_1 := hw
          obtain ⟨rb_o_1, hm_o_1, hq_o_1, hr_o_1, hza_o_1, hzc_o_1⟩ := hw_o_1
          refine x_get S hK in_X3 hm_o_1 rfl 4 (by decide) q1152 (fun x h => h) rfl dX3_many_37 ?_
          refine lv_iload hx hb dX3_many_40 (lv_at hl 0 rfl) ?_
          refine x_aald S hK 3 rfl rfl hq_o_1 (by omega) (by omega) rfl dX3_many_42 ?_
          have hr_w_2 := hr_o_1 (j).toNat (by omega)
          have hbw_w_2 := hbc (j).toNat (by omega)
          refine lv_aload_n hx hb dX3_many_43 rfl (lv_at hl 2 rfl) ?_
          refine x_get S hK in_X3 hm_o_1 rfl 4 (by decide) q1152 (fun x h => h) rfl dX3_many_44 ?_
          refine lv_iload_n hx hb dX3_many_47 rfl (lv_at hl 3 rfl) ?_
          refine x_aald S hK 3 rfl rfl hq_o_1 (by omega) (by omega) rfl dX3_many_48 ?_
          have hr_w_3 := hr_o_1 (k).toNat (by omega)
          have hbw_w_3 := hbc (k).toNat (by omega)
          refine x_c0S (as := [.ref ((rb_o_1) ((j).toNat)), .ref ((rb_o_1) ((k).toNat))]) (rest := [.int (iI (mm))]) S hK (c_X3_isAhead l G H0 (cc (j).toNat) (cc (k).toNat) ((rb_o_1) ((j).toNat)) ((rb_o_1) ((k).toNat)) (by first | assumption | (apply hbc; omega)) (by first | assumption | (apply hbc; omega)) hr_w_2 hr_w_3) q1294 q1295 q43 q1296 hdX3_isAhead ⟨by decide, by decide⟩ hl.1 rfl rfl (Nat.le_of_ble_eq_true rfl) ⟨Nat.le_of_ble_eq_true rfl, Nat.le_of_ble_eq_true rfl⟩ dX3_many_49 ?_
          refine x_c0S (as := [.int (iI (b2i (aheadR (cc (j).toNat) (cc (k).toNat))))]) (rest := [.int (iI (mm))]) S hK (c_X3_one l G H0 (aheadR (cc (j).toNat) (cc (k).toNat))  ) q1145 q1146 q43 q1147 hdX3_one ⟨by decide, by decide⟩ hl.1 rfl rfl (Nat.le_of_ble_eq_true rfl) ⟨Nat.le_of_ble_eq_true rfl, Nat.le_of_ble_eq_true rfl⟩ dX3_many_52 ?_
          refine xi_iadd hx hb dX3_many_55 ?_
          refine lv_istore_n (lv' := [(3, .int (iI ((mm) + (b2i ((aheadR (cc (j).toNat) (cc (k).toNat))))))), (4, .int (iI (j))), (0, .ref (h)), (1, .int (iI (k))), (2, .int (iI (b2i (P))))]) hx hb dX3_many_56 rfl hl (by decide) rfl (fun ls hl => ?_)
          refine xi_iinc (lv' := [(4, .int (iI (j + 1))), (3, .int (iI ((mm) + (b2i ((aheadR (cc (j).toNat) (cc (k).toNat))))))), (0, .ref (h)), (1, .int (iI (k))), (2, .int (iI (b2i (P))))]) hx hb dX3_many_57 hl (k := 1) rfl (by decide) rfl (fun ls hl => ?_)
          refine lv_goto (tgt := 5) hx hb dX3_many_60 (by decide) ?_
          exact ih (j + 1) ((mm) + (b2i ((aheadR (cc (j).toNat) (cc (k).toNat))))) (by omega) (by (first | (rw [if_pos c_14] at hmm ⊢; rw [cntZ_s hj.1, hmm]) | (rw [if_neg c_14] at hmm ⊢; rw [cntZ_s hj.1, hmm]) | (split <;> rfl))) (by (first | omega | (have := b2i_r (P := aheadR (cc k.toNat) (cc j.toNat)); have := b2i_r (P := aheadR (cc j.toNat) (cc k.toNat)); omega))) (by omega) ls (lv_sub hl [0, 1, 2, 3, 4] rfl)
        · skip
          refine lv_aload_n hx hb dX3_many_17 rfl (lv_at hl 2 rfl) ?_
          have hw_o_4 := hw
          obtain ⟨rb_o_4, hm_o_4, hq_o_4, hr_o_4, hza_o_4, hzc_o_4⟩ := hw_o_4
          refine x_get S hK in_X3 hm_o_4 rfl 4 (by decide) q1152 (fun x h => h) rfl dX3_many_18 ?_
          refine lv_iload_n hx hb dX3_many_21 rfl (lv_at hl 3 rfl) ?_
          refine x_aald S hK 3 rfl rfl hq_o_4 (by omega) (by omega) rfl dX3_many_22 ?_
          have hr_w_5 := hr_o_4 (k).toNat (by omega)
          have hbw_w_5 := hbc (k).toNat (by omega)
          refine lv_aload_n hx hb dX3_many_23 rfl (lv_at hl 2 rfl) ?_
          refine x_get S hK in_X3 hm_o_4 rfl 4 (by decide) q1152 (fun x h => h) rfl dX3_many_24 ?_
          refine lv_iload hx hb dX3_many_27 (lv_at hl 0 rfl) ?_
          refine x_aald S hK 3 rfl rfl hq_o_4 (by omega) (by omega) rfl dX3_many_29 ?_
          have hr_w_6 := hr_o_4 (j).toNat (by omega)
          have hbw_w_6 := hbc (j).toNat (by omega)
          refine x_c0S (as := [.ref ((rb_o_4) ((k).toNat)), .ref ((rb_o_4) ((j).toNat))]) (rest := [.int (iI (mm))]) S hK (c_X3_isAhead l G H0 (cc (k).toNat) (cc (j).toNat) ((rb_o_4) ((k).toNat)) ((rb_o_4) ((j).toNat)) (by first | assumption | (apply hbc; omega)) (by first | assumption | (apply hbc; omega)) hr_w_5 hr_w_6) q1294 q1295 q43 q1296 hdX3_isAhead ⟨by decide, by decide⟩ hl.1 rfl rfl (Nat.le_of_ble_eq_true rfl) ⟨Nat.le_of_ble_eq_true rfl, Nat.le_of_ble_eq_true rfl⟩ dX3_many_30 ?_
          refine lv_goto (tgt := 52) hx hb dX3_many_33 (by decide) ?_
          refine x_c0S (as := [.int (iI (b2i (aheadR (cc (k).toNat) (cc (j).toNat))))]) (rest := [.int (iI (mm))]) S hK (c_X3_one l G H0 (aheadR (cc (k).toNat) (cc (j).toNat))  ) q1145 q1146 q43 q1147 hdX3_one ⟨by decide, by decide⟩ hl.1 rfl rfl (Nat.le_of_ble_eq_true rfl) ⟨Nat.le_of_ble_eq_true rfl, Nat.le_of_ble_eq_true rfl⟩ dX3_many_52 ?_
          refine xi_iadd hx hb dX3_many_55 ?_
          refine lv_istore_n (lv' := [(3, .int (iI ((mm) + (b2i ((aheadR (cc (k).toNat) (cc (j).toNat))))))), (4, .int (iI (j))), (0, .ref (h)), (1, .int (iI (k))), (2, .int (iI (b2i (P))))]) hx hb dX3_many_56 rfl hl (by decide) rfl (fun ls hl => ?_)
          refine xi_iinc (lv' := [(4, .int (iI (j + 1))), (3, .int (iI ((mm) + (b2i ((aheadR (cc (k).toNat) (cc (j).toNat))))))), (0, .ref (h)), (1, .int (iI (k))), (2, .int (iI (b2i (P))))]) hx hb dX3_many_57 hl (k := 1) rfl (by decide) rfl (fun ls hl => ?_)
          refine lv_goto (tgt := 5) hx hb dX3_many_60 (by decide) ?_
          exact ih (j + 1) ((mm) + (b2i ((aheadR (cc (k).toNat) (cc (j).toNat))))) (by omega) (by (first | (rw [if_pos c_14] at hmm ⊢; rw [cntZ_s hj.1, hmm]) | (rw [if_neg c_14] at hmm ⊢; rw [cntZ_s hj.1, hmm]) | (split <;> rfl))) (by (first | omega | (have := b2i_r (P := aheadR (cc k.toNat) (cc j.toNat)); have := b2i_r (P := aheadR (cc j.toNat) (cc k.toNat)); omega))) (by omega) ls (lv_sub hl [0, 1, 2, 3, 4] rfl)
  refine xi_iconst hx hb dX3_many_0 ?_
  refine lv_istore_n (lv' := [(3, .int (iI (0))), (0, .ref (h)), (1, .int (iI (k))), (2, .int (iI (b2i (P))))]) hx hb dX3_many_1 rfl hl (by decide) rfl (fun ls hl => ?_)
  refine xi_iconst hx hb dX3_many_2 ?_
  refine lv_istore (lv' := [(4, .int (iI (0))), (3, .int (iI (0))), (0, .ref (h)), (1, .int (iI (k))), (2, .int (iI (b2i (P))))]) hx hb dX3_many_3 hl (by decide) rfl (fun ls hl => ?_)
  exact L_5 ((((8 : Int) - (0)).toNat) + 1) (0) (0) (by omega) (by (first | (rw [if_pos c_14] at hmm ⊢; rw [cntZ_s hj.1, hmm]) | (rw [if_neg c_14] at hmm ⊢; rw [cntZ_s hj.1, hmm]) | (split <;> rfl))) (by (first | omega | (have := b2i_r (P := aheadR (cc k.toNat) (cc j.toNat)); have := b2i_r (P := aheadR (cc j.toNat) (cc k.toNat)); omega))) (by omega) ls (lv_sub hl [0, 1, 2, 3, 4] rfl)

theorem hpX3_findTold : plainFor yX3_findTold = true := by decide +kernel
theorem hdX3_findTold : nMH yX3_findTold 2 := by decide +kernel
set_option maxHeartbeats 4000000 in
theorem c_X3_findTold (l : Launch) (G : GG) (H0 : Heap) (mc : Nat) (th : Int) (ac : Int) (no : Int) (kn : Int) (cc : Nat → Row) (h : Nat) (k : Int) (P : Prop) [Decidable P] (r_k : -2147483648 ≤ k ∧ k < 2147483648) (hac : 0 ≤ ac ∧ ac ≤ 1000) (hno : 0 ≤ no ∧ no ≤ 1000) (hkn : 0 ≤ kn ∧ kn ≤ 1000) (hok : ∀ k : Nat, k < 8 → okR (cc k)) (hk : 0 ≤ k ∧ k ≤ 7) (hw : MW G (h) (mc) (th) (ac) (no) (kn) (cc) H0) : Ct0 l G yX3_findTold cX3_findTold 5 (Option.some Jvm.ClassFile.FieldType.int) 1 21 [.ref (h), .int (iI (k)), .int (iI (b2i (P)))] H0 (.int (iI (fndZ P (fun j => alikeR (cc j) (cc k.toNat)) 8))) := by
  refine Ct0.start hpX3_findTold (Nat.le_of_ble_eq_true rfl) ?_
  intro p e s m below meth c ls hx hb hr S hlk hH hK hl
  have hl : lv_has ls 5 [(0, .ref (h)), (1, .int (iI (k))), (2, .int (iI (b2i (P))))] := hl
  have hbc : ∀ k : Nat, k < 8 → bRow (cc k) := fun k h => okR_b (hok k h)
  have L_5 : ∀ (n_ : Nat) (j : Int) (f : Int) (hj : 0 ≤ j ∧ j ≤ 8) (hf : f = fndZ P (fun j => alikeR (cc j) (cc k.toNat)) j.toNat) (hf2 : -1 ≤ f ∧ f < 8)  (hm_ : ((8 : Int) - j).toNat < n_) (ls : Array Slot) (hl : lv_has ls 5 [(4, .int (iI (j))), (3, .int (iI (f))), (0, .ref (h)), (1, .int (iI (k))), (2, .int (iI (b2i (P))))]), W p l e { frames := 1, cells := 0, slots := 0, locals := 21 } s m ([.ref (h), .int (iI (k)), .int (iI (b2i (P)))] : List Value).toArray below meth c H0 [] 0 0 (MQ below (k2_QcV (.int (iI (fndZ P (fun j => alikeR (cc j) (cc k.toNat)) 8)))) ([.ref (h), .int (iI (k)), .int (iI (b2i (P)))] : List Value).toArray s 0 0 (fun _ => False)) (F0 m 5 ls []) := by
    intro n_
    induction n_ with
    | zero =>
      intro j f hj hf hf2 hm_ ls hl
      exact absurd hm_ (Nat.not_lt_zero _)
    | succ n_ ih =>
      intro j f hj hf hf2 hm_ ls hl
      refine lv_iload hx hb dX3_findTold_5 (lv_at hl 0 rfl) ?_
      refine xi_bipush hx hb (by decide) dX3_findTold_7 ?_
      refine xi_icmp_ge (tgt := 49) hx hb dX3_findTold_9 (by decide) (by omega) (by omega) (fun c_9 => ?_) (fun c_9 => ?_)
      · skip
        refine lv_iload_n hx hb dX3_findTold_49 rfl (lv_at hl 1 rfl) ?_
        exact x_ret0i hx hb hr hlk hH (by rw [hf, show j.toNat = 8 by omega]) dX3_findTold_50
      · skip
        refine lv_aload_n hx hb dX3_findTold_12 rfl (lv_at hl 2 rfl) ?_
        have hw_o_1 := hw
        obtain ⟨rb_o_1, hm_o_1, hq_o_1, hr_o_1, hza_o_1, hzc_o_1⟩ := hw_o_1
        refine x_get S hK in_X3 hm_o_1 rfl 4 (by decide) q1152 (fun x h => h) rfl dX3_findTold_13 ?_
        refine lv_iload hx hb dX3_findTold_16 (lv_at hl 0 rfl) ?_
        refine x_aald S hK 3 rfl rfl hq_o_1 (by omega) (by omega) rfl dX3_findTold_18 ?_
        have hr_w_2 := hr_o_1 (j).toNat (by omega)
        have hbw_w_2 := hbc (j).toNat (by omega)
        refine lv_aload_n hx hb dX3_findTold_19 rfl (lv_at hl 2 rfl) ?_
        refine x_get S hK in_X3 hm_o_1 rfl 4 (by decide) q1152 (fun x h => h) rfl dX3_findTold_20 ?_
        refine lv_iload_n hx hb dX3_findTold_23 rfl (lv_at hl 3 rfl) ?_
        refine x_aald S hK 3 rfl rfl hq_o_1 (by omega) (by omega) rfl dX3_findTold_24 ?_
        have hr_w_3 := hr_o_1 (k).toNat (by omega)
        have hbw_w_3 := hbc (k).toNat (by omega)
        refine x_c0S (as := [.ref ((rb_o_1) ((j).toNat)), .ref ((rb_o_1) ((k).toNat))]) (rest := []) S hK (c_X3_isAlike l G H0 (cc (j).toNat) (cc (k).toNat) ((rb_o_1) ((j).toNat)) ((rb_o_1) ((k).toNat)) (by first | assumption | (apply hbc; omega)) (by first | assumption | (apply hbc; omega)) hr_w_2 hr_w_3) q1194 q1195 q43 q1196 hdX3_isAlike ⟨by decide, by decide⟩ hl.1 rfl rfl (Nat.le_of_ble_eq_true rfl) ⟨Nat.le_of_ble_eq_true rfl, Nat.le_of_ble_eq_true rfl⟩ dX3_findTold_25 ?_
        refine xi_ifb_eq (tgt := 43) hx hb dX3_findTold_28 (by decide) (fun c_28 => ?_) (fun c_28 => ?_)
        · skip
          refine xi_iinc (lv' := [(4, .int (iI (j + 1))), (3, .int (iI (f))), (0, .ref (h)), (1, .int (iI (k))), (2, .int (iI (b2i (P))))]) hx hb dX3_findTold_43 hl (k := 0) rfl (by decide) rfl (fun ls hl => ?_)
          refine lv_goto (tgt := 5) hx hb dX3_findTold_46 (by decide) ?_
          exact ih (j + 1) (f) (by omega) (by (first | rfl | (rw [fndZ_s hj.1, ← hf]; split <;> rename_i hh <;> first | rfl | exact absurd hh.1 (by assumption) | exact (hh.2.elim (fun z => absurd z (by assumption)) (fun z => absurd z (by assumption))) | exact absurd ⟨by assumption, Or.inl (by assumption)⟩ hh | exact absurd ⟨by assumption, Or.inr (by assumption)⟩ hh))) (by omega) (by omega) ls (lv_sub hl [0, 1, 2, 3, 4] rfl)
        · skip
          refine lv_iload_n hx hb dX3_findTold_31 rfl (lv_at hl 4 rfl) ?_
          refine xi_ifb_ne (tgt := 40) hx hb dX3_findTold_32 (by decide) (fun c_32 => ?_) (fun c_32 => ?_)
          · skip
            refine lv_iload hx hb dX3_findTold_40 (lv_at hl 0 rfl) ?_
            refine lv_istore_n (lv' := [(3, .int (iI (j))), (4, .int (iI (j))), (0, .ref (h)), (1, .int (iI (k))), (2, .int (iI (b2i (P))))]) hx hb dX3_findTold_42 rfl hl (by decide) rfl (fun ls hl => ?_)
            refine xi_iinc (lv' := [(4, .int (iI (j + 1))), (3, .int (iI (j))), (0, .ref (h)), (1, .int (iI (k))), (2, .int (iI (b2i (P))))]) hx hb dX3_findTold_43 hl (k := 1) rfl (by decide) rfl (fun ls hl => ?_)
            refine lv_goto (tgt := 5) hx hb dX3_findTold_46 (by decide) ?_
            exact ih (j + 1) (j) (by omega) (by (first | rfl | (rw [fndZ_s hj.1, ← hf]; split <;> rename_i hh <;> first | rfl | exact absurd hh.1 (by assumption) | exact (hh.2.elim (fun z => absurd z (by assumption)) (fun z => absurd z (by assumption))) | exact absurd ⟨by assumption, Or.inl (by assumption)⟩ hh | exact absurd ⟨by assumption, Or.inr (by assumption)⟩ hh))) (by omega) (by omega) ls (lv_sub hl [0, 1, 2, 3, 4] rfl)
          · skip
            refine lv_iload_n hx hb dX3_findTold_35 rfl (lv_at hl 1 rfl) ?_
            refine xi_iconst hx hb dX3_findTold_36 ?_
            refine xi_icmp_ne (tgt := 43) hx hb dX3_findTold_37 (by decide) (by omega) (by omega) (fun c_37 => ?_) (fun c_37 => ?_)
            · skip
              refine xi_iinc (lv' := [(4, .int (iI (j + 1))), (3, .int (iI (f))), (0, .ref (h)), (1, .int (iI (k))), (2, .int (iI (b2i (P))))]) hx hb dX3_findTold_43 hl (k := 0) rfl (by decide) rfl (fun ls hl => ?_)
              refine lv_goto (tgt := 5) hx hb dX3_findTold_46 (by decide) ?_
              exact ih (j + 1) (f) (by omega) (by (first | rfl | (rw [fndZ_s hj.1, ← hf]; split <;> rename_i hh <;> first | rfl | exact absurd hh.1 (by assumption) | exact (hh.2.elim (fun z => absurd z (by assumption)) (fun z => absurd z (by assumption))) | exact absurd ⟨by assumption, Or.inl (by assumption)⟩ hh | exact absurd ⟨by assumption, Or.inr (by assumption)⟩ hh))) (by omega) (by omega) ls (lv_sub hl [0, 1, 2, 3, 4] rfl)
            · skip
              refine lv_iload hx hb dX3_findTold_40 (lv_at hl 0 rfl) ?_
              refine lv_istore_n (lv' := [(3, .int (iI (j))), (4, .int (iI (j))), (0, .ref (h)), (1, .int (iI (k))), (2, .int (iI (b2i (P))))]) hx hb dX3_findTold_42 rfl hl (by decide) rfl (fun ls hl => ?_)
              refine xi_iinc (lv' := [(4, .int (iI (j + 1))), (3, .int (iI (j))), (0, .ref (h)), (1, .int (iI (k))), (2, .int (iI (b2i (P))))]) hx hb dX3_findTold_43 hl (k := 1) rfl (by decide) rfl (fun ls hl => ?_)
              refine lv_goto (tgt := 5) hx hb dX3_findTold_46 (by decide) ?_
              exact ih (j + 1) (j) (by omega) (by (first | rfl | (rw [fndZ_s hj.1, ← hf]; split <;> rename_i hh <;> first | rfl | exact absurd hh.1 (by assumption) | exact (hh.2.elim (fun z => absurd z (by assumption)) (fun z => absurd z (by assumption))) | exact absurd ⟨by assumption, Or.inl (by assumption)⟩ hh | exact absurd ⟨by assumption, Or.inr (by assumption)⟩ hh))) (by omega) (by omega) ls (lv_sub hl [0, 1, 2, 3, 4] rfl)
  refine xi_iconst hx hb dX3_findTold_0 ?_
  refine lv_istore_n (lv' := [(3, .int (iI (-1))), (0, .ref (h)), (1, .int (iI (k))), (2, .int (iI (b2i (P))))]) hx hb dX3_findTold_1 rfl hl (by decide) rfl (fun ls hl => ?_)
  refine xi_iconst hx hb dX3_findTold_2 ?_
  refine lv_istore (lv' := [(4, .int (iI (0))), (3, .int (iI (-1))), (0, .ref (h)), (1, .int (iI (k))), (2, .int (iI (b2i (P))))]) hx hb dX3_findTold_3 hl (by decide) rfl (fun ls hl => ?_)
  exact L_5 ((((8 : Int) - (0)).toNat) + 1) (0) (-1) (by omega) (by (first | rfl | (rw [fndZ_s hj.1, ← hf]; split <;> rename_i hh <;> first | rfl | exact absurd hh.1 (by assumption) | exact (hh.2.elim (fun z => absurd z (by assumption)) (fun z => absurd z (by assumption))) | exact absurd ⟨by assumption, Or.inl (by assumption)⟩ hh | exact absurd ⟨by assumption, Or.inr (by assumption)⟩ hh))) (by omega) (by omega) ls (lv_sub hl [0, 1, 2, 3, 4] rfl)

theorem hpX3_halvings : plainFor yX3_halvings = true := by decide +kernel
theorem hdX3_halvings : nMH yX3_halvings 1 := by decide +kernel
set_option maxHeartbeats 4000000 in
theorem c_X3_halvings (l : Launch) (G : GG) (H0 : Heap) (t : Int) (r_t : -2147483648 ≤ t ∧ t < 2147483648) (ht : -2147483648 < t) : Ct0 l G yX3_halvings cX3_halvings 3 (Option.some Jvm.ClassFile.FieldType.int) 1 20 [.int (iI (t))] H0 (.int (iI (lgZ t))) := by
  refine Ct0.start hpX3_halvings (Nat.le_of_ble_eq_true rfl) ?_
  intro p e s m below meth c ls hx hb hr S hlk hH hK hl
  have hl : lv_has ls 3 [(0, .int (iI (t)))] := hl
  refine xi_iconst hx hb dX3_halvings_0 ?_
  refine lv_istore_n (lv' := [(1, .int (iI (0))), (0, .int (iI (t)))]) hx hb dX3_halvings_1 rfl hl (by decide) rfl (fun ls hl => ?_)
  refine lv_iload_n hx hb dX3_halvings_2 rfl (lv_at hl 1 rfl) ?_
  refine x_c0S (as := [.int (iI (t))]) (rest := []) S hK (c_J11_abs_2 l G H0 (t) (by omega) (by omega) ) q1642 q270 q56 q271 hdJ11_abs_2 ⟨by decide, by decide⟩ hl.1 rfl rfl (Nat.le_of_ble_eq_true rfl) ⟨Nat.le_of_ble_eq_true rfl, Nat.le_of_ble_eq_true rfl⟩ dX3_halvings_3 ?_
  refine lv_istore_n (lv' := [(2, .int (iI ((t).natAbs : Int))), (1, .int (iI (0))), (0, .int (iI (t)))]) hx hb dX3_halvings_6 rfl hl (by decide) rfl (fun ls hl => ?_)
  have L_7 : ∀ (n_ : Nat) (k : Int) (lf : Int) (hlf : 0 ≤ lf ∧ lf < 2147483648) (hkk : 0 ≤ k ∧ k + Nat.log2 lf.toNat = Nat.log2 t.natAbs) (hlg : Nat.log2 t.natAbs ≤ 31)  (hm_ : lf.toNat < n_) (ls : Array Slot) (hl : lv_has ls 3 [(2, .int (iI (lf))), (1, .int (iI (k))), (0, .int (iI (t)))]), W p l e { frames := 1, cells := 0, slots := 0, locals := 20 } s m ([.int (iI (t))] : List Value).toArray below meth c H0 [] 0 0 (MQ below (k2_QcV (.int (iI (lgZ t)))) ([.int (iI (t))] : List Value).toArray s 0 0 (fun _ => False)) (F0 m 7 ls []) := by
    intro n_
    induction n_ with
    | zero =>
      intro k lf hlf hkk hlg hm_ ls hl
      exact absurd hm_ (Nat.not_lt_zero _)
    | succ n_ ih =>
      intro k lf hlf hkk hlg hm_ ls hl
      refine lv_iload_n hx hb dX3_halvings_7 rfl (lv_at hl 0 rfl) ?_
      refine xi_iconst hx hb dX3_halvings_8 ?_
      refine xi_icmp_le (tgt := 22) hx hb dX3_halvings_9 (by decide) (by omega) (by omega) (fun c_9 => ?_) (fun c_9 => ?_)
      · skip
        refine lv_iload_n hx hb dX3_halvings_22 rfl (lv_at hl 1 rfl) ?_
        exact x_ret0i hx hb hr hlk hH (by have e3_ := lg_end (n := lf.toNat) (by omega); unfold lgZ; omega) dX3_halvings_23
      · skip
        refine xi_iinc (lv' := [(1, .int (iI (k + 1))), (2, .int (iI (lf))), (0, .int (iI (t)))]) hx hb dX3_halvings_12 hl (k := 1) rfl (by decide) rfl (fun ls hl => ?_)
        refine lv_iload_n hx hb dX3_halvings_15 rfl (lv_at hl 1 rfl) ?_
        refine xi_iconst hx hb dX3_halvings_16 ?_
        refine xi_idiv hx hb (by omega) (by omega) (by omega) (by omega) dX3_halvings_17 ?_
        have td_17 := tdm (lf) (2) (by decide)
        refine lv_istore_n (lv' := [(2, .int (iI (Int.tdiv (lf) (2)))), (1, .int (iI (k + 1))), (0, .int (iI (t)))]) hx hb dX3_halvings_18 rfl hl (by decide) rfl (fun ls hl => ?_)
        refine lv_goto (tgt := 7) hx hb dX3_halvings_19 (by decide) ?_
        exact ih (k + 1) (Int.tdiv (lf) (2)) (by omega) (by (first | (have e1_ : (Int.tdiv lf 2).toNat = lf.toNat / 2 := (by omega); have e2_ := lg_step (n := lf.toNat) (by omega); rw [e1_]; omega) | (rw [Int.toNat_natCast]; omega))) (by (first | assumption | (by_cases h0 : t.natAbs = 0; rw [h0, lg_end (by omega)]; omega; have := (Nat.log2_lt h0 (k := 32)).mpr (by omega); omega))) (by omega) ls (lv_sub hl [0, 1, 2] rfl)
  exact L_7 ((((t).natAbs : Int).toNat) + 1) (0) ((t).natAbs : Int) (by omega) (by (first | (have e1_ : (Int.tdiv lf 2).toNat = lf.toNat / 2 := (by omega); have e2_ := lg_step (n := lf.toNat) (by omega); rw [e1_]; omega) | (rw [Int.toNat_natCast]; omega))) (by (first | assumption | (by_cases h0 : t.natAbs = 0; rw [h0, lg_end (by omega)]; omega; have := (Nat.log2_lt h0 (k := 32)).mpr (by omega); omega))) (by omega) ls (lv_sub hl [0, 1, 2] rfl)

theorem hpX3_heightTold : plainFor yX3_heightTold = true := by decide +kernel
theorem hdX3_heightTold : nMH yX3_heightTold 1 := by decide +kernel
set_option maxHeartbeats 4000000 in
theorem c_X3_heightTold (l : Launch) (G : GG) (H0 : Heap) (mc : Nat) (th : Int) (ac : Int) (no : Int) (kn : Int) (cc : Nat → Row) (h : Nat) (k : Int) (r_k : -2147483648 ≤ k ∧ k < 2147483648) (hac : 0 ≤ ac ∧ ac ≤ 1000) (hno : 0 ≤ no ∧ no ≤ 1000) (hkn : 0 ≤ kn ∧ kn ≤ 1000) (hok : ∀ k : Nat, k < 8 → okR (cc k)) (hk : 0 ≤ k ∧ k ≤ 7) (hw : MW G (h) (mc) (th) (ac) (no) (kn) (cc) H0) : Ct0 l G yX3_heightTold cX3_heightTold 3 (Option.some Jvm.ClassFile.FieldType.int) 2 42 [.ref (h), .int (iI (k))] H0 (.int (iI (if (cc k.toNat).1 = 0 then lgZ (cc k.toNat).2.1 - 3 else lgZ (cc k.toNat).2.1 / 3 - 1))) := by
  refine Ct0.start hpX3_heightTold (Nat.le_of_ble_eq_true rfl) ?_
  intro p e s m below meth c ls hx hb hr S hlk hH hK hl
  have hl : lv_has ls 3 [(0, .ref (h)), (1, .int (iI (k)))] := hl
  have hbc : ∀ k : Nat, k < 8 → bRow (cc k) := fun k h => okR_b (hok k h)
  have hb1 := hbc k.toNat (by omega)
  have hl1 := lgZ_r (t := (cc k.toNat).2.1) (by omega)
  refine lv_aload_n hx hb dX3_heightTold_0 rfl (lv_at hl 0 rfl) ?_
  have hw_o_1 := hw
  obtain ⟨rb_o_1, hm_o_1, hq_o_1, hr_o_1, hza_o_1, hzc_o_1⟩ := hw_o_1
  refine x_get S hK in_X3 hm_o_1 rfl 4 (by decide) q1152 (fun x h => h) rfl dX3_heightTold_1 ?_
  refine lv_iload_n hx hb dX3_heightTold_4 rfl (lv_at hl 1 rfl) ?_
  refine x_aald S hK 3 rfl rfl hq_o_1 (by omega) (by omega) rfl dX3_heightTold_5 ?_
  have hr_w_2 := hr_o_1 (k).toNat (by omega)
  have hbw_w_2 := hbc (k).toNat (by omega)
  refine xi_iconst hx hb dX3_heightTold_6 ?_
  refine x_iald (w := (cc (k).toNat).2.1) S hK hr_w_2 (by omega) (by decide) rfl dX3_heightTold_7 ?_
  refine x_c0S (as := [.int (iI ((cc (k).toNat).2.1))]) (rest := []) S hK (c_X3_halvings l G H0 ((cc (k).toNat).2.1) (by omega) (by omega) ) q1639 q1640 q43 q1641 hdX3_halvings ⟨by decide, by decide⟩ hl.1 rfl rfl (Nat.le_of_ble_eq_true rfl) ⟨Nat.le_of_ble_eq_true rfl, Nat.le_of_ble_eq_true rfl⟩ dX3_heightTold_8 ?_
  refine lv_istore_n (lv' := [(2, .int (iI (lgZ ((cc (k).toNat).2.1)))), (0, .ref (h)), (1, .int (iI (k)))]) hx hb dX3_heightTold_11 rfl hl (by decide) rfl (fun ls hl => ?_)
  refine lv_aload_n hx hb dX3_heightTold_12 rfl (lv_at hl 1 rfl) ?_
  refine x_get S hK in_X3 hm_o_1 rfl 4 (by decide) q1152 (fun x h => h) rfl dX3_heightTold_13 ?_
  refine lv_iload_n hx hb dX3_heightTold_16 rfl (lv_at hl 2 rfl) ?_
  refine x_aald S hK 3 rfl rfl hq_o_1 (by omega) (by omega) rfl dX3_heightTold_17 ?_
  refine xi_iconst hx hb dX3_heightTold_18 ?_
  refine x_iald (w := (cc (k).toNat).1) S hK hr_w_2 (by omega) (by decide) rfl dX3_heightTold_19 ?_
  refine xi_if_ne (tgt := 29) hx hb dX3_heightTold_20 (by decide) (by omega) (fun c_20 => ?_) (fun c_20 => ?_)
  · skip
    refine lv_iload_n hx hb dX3_heightTold_29 rfl (lv_at hl 0 rfl) ?_
    refine xi_iconst hx hb dX3_heightTold_30 ?_
    refine xi_idiv hx hb (by omega) (by omega) (by omega) (by omega) dX3_heightTold_31 ?_
    have td_31 := tdm (lgZ ((cc (k).toNat).2.1)) (3) (by decide)
    refine xi_iconst hx hb dX3_heightTold_32 ?_
    refine xi_isub hx hb dX3_heightTold_33 ?_
    exact x_ret0i hx hb hr hlk hH (by (repeat (first | with_reducible refine ifp (by omega) ?_ | with_reducible refine ifn (by omega) ?_)); first | rfl | omega) dX3_heightTold_34
  · skip
    refine lv_iload_n hx hb dX3_heightTold_23 rfl (lv_at hl 0 rfl) ?_
    refine xi_iconst hx hb dX3_heightTold_24 ?_
    refine xi_isub hx hb dX3_heightTold_25 ?_
    refine lv_goto (tgt := 34) hx hb dX3_heightTold_26 (by decide) ?_
    exact x_ret0i hx hb hr hlk hH (by (repeat (first | with_reducible refine ifp (by omega) ?_ | with_reducible refine ifn (by omega) ?_)); first | rfl | omega) dX3_heightTold_34

