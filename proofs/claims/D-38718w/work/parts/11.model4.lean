set_option maxRecDepth 100000
theorem hpX3_eighths : plainFor yX3_eighths = true := by decide +kernel
theorem hdX3_eighths : nMH yX3_eighths 2 := by decide +kernel
set_option maxHeartbeats 4000000 in
theorem c_X3_eighths (l : Launch) (G : GG) (H0 : Heap) (mc : Nat) (th : Int) (ac : Int) (no : Int) (kn : Int) (cc : Nat → Row) (h : Nat) (k : Int) (t : Int) (r_k : -2147483648 ≤ k ∧ k < 2147483648) (r_t : -2147483648 ≤ t ∧ t < 2147483648) (hac : 0 ≤ ac ∧ ac ≤ 1000) (hno : 0 ≤ no ∧ no ≤ 1000) (hkn : 0 ≤ kn ∧ kn ≤ 1000) (hok : ∀ k : Nat, k < 8 → okR (cc k)) (hw : MW G (h) (mc) (th) (ac) (no) (kn) (cc) H0) : Ct1 l G yX3_eighths cX3_eighths 3 (Option.some Jvm.ClassFile.FieldType.int) 3 1 3 61 [.ref (h), .int (iI (k)), .int (iI (t))] H0 (fun q => q = h ∨ q = mc) (fun (rv : Option Value) (H1 : Heap) => ∃ z : Res, op_eighths ac no cc (k) (t) = z ∧ rv = some (.int (iI z.2.1)) ∧ MW G h mc z.1 z.2.2.1 z.2.2.2.1 kn z.2.2.2.2 H1) := by
  refine Ct1.start hpX3_eighths (Nat.le_of_ble_eq_true rfl) ?_
  intro p e s m below meth c ls hx hb hr S hlk hname hH hK hS hl
  have hl : lv_has ls 3 [(0, .ref (h)), (1, .int (iI (k))), (2, .int (iI (t)))] := hl
  have hbc : ∀ k : Nat, k < 8 → bRow (cc k) := fun k h => okR_b (hok k h)
  have kw : Keep (fun q => q = h ∨ q = mc) H0 H0 := Keep.rf
  have hz0 := hK.2.2.1
  refine lv_aload_n hx hb dX3_eighths_0 rfl (lv_at hl 0 rfl) ?_
  refine lv_iload_n hx hb dX3_eighths_1 rfl (lv_at hl 1 rfl) ?_
  refine x_c0S (as := [.int (iI (k))]) (rest := [.ref (h)]) S hK (c_X3_isNoCell l G H0 (k) (by omega) ) q1173 q1174 q43 q1175 hdX3_isNoCell ⟨by decide, by decide⟩ hl.1 rfl rfl (Nat.le_of_ble_eq_true rfl) ⟨Nat.le_of_ble_eq_true rfl, Nat.le_of_ble_eq_true rfl⟩ dX3_eighths_2 ?_
  refine xi_iconst hx hb dX3_eighths_5 ?_
  have hw_o_1 := hw
  obtain ⟨rb_o_1, hm_o_1, hq_o_1, hr_o_1, hza_o_1, hzc_o_1⟩ := hw_o_1
  refine x_c1V (as := [.int (iI (b2i (¬ (0 ≤ (k) ∧ (k) ≤ 7)))), .int (iI (1))]) (rest := []) S hK hm_o_1 rfl rfl (c_X3_start l G H0 (mc) (th) (ac) (no) (kn) (cc) (h) (¬ (0 ≤ (k) ∧ (k) ≤ 7)) (1) (by omega) (by first | assumption | omega) (by first | assumption | omega) (by first | assumption | omega) (by assumption) (by omega) hw) q1180 q1182 qs9 q43 q1183 hdX3_start ⟨by decide, by decide⟩ hl.1 rfl rfl (Nat.le_of_ble_eq_true rfl) ⟨Nat.le_of_ble_eq_true rfl, Nat.le_of_ble_eq_true rfl⟩ hS (fun q e => Or.inl (Or.inl e)) (fun q z => Or.inr z) dX3_eighths_6 (fun rv_c_2 H_c_2 locs hp_c_2 k_c_2 hS => ?_)
  have kw := kw.then k_c_2 (fun q e _ => Or.inl e)
  have hK := hK.keep k_c_2 (fun q e => by have e : q = h := e; omega)
  obtain ⟨th_r_3, hth_r_3, rfl, hw_r_3⟩ := hp_c_2
  refine W.eq (g2 := F0 m 9 ls [.int (iI (b2i (0 < (th_r_3))))]) rfl ?_
  refine xi_ifb_ne (tgt := 39) hx hb dX3_eighths_9 (by decide) (fun c_9 => ?_) (fun c_9 => ?_)
  · skip
    obtain rfl : th_r_3 = 1 := by omega
    refine xi_iconst hx hb dX3_eighths_39 ?_
    refine x_ret1i hx hb hr hlk hH hS (by omega) (by omega) ?_ dX3_eighths_40
    first | (exfalso; omega) | exact ⟨(_, _, _, _, _), (by unfold op_eighths; (repeat (first | with_reducible refine ifp (by omega) ?_ | with_reducible refine ifn (by omega) ?_)); first | rfl | exact comeF_s (by assumption) | exact comeF_n (by assumption) | exact comeF_s (if_pos (by omega)) | exact comeF_n (if_neg (by omega))), rfl, hw_r_3⟩
  · skip
    obtain rfl : th_r_3 = 0 := by omega
    refine lv_aload_n hx hb dX3_eighths_12 rfl (lv_at hl 0 rfl) ?_
    refine lv_iload_n hx hb dX3_eighths_13 rfl (lv_at hl 2 rfl) ?_
    refine xi_i2l hx hb (by omega) dX3_eighths_14 ?_
    refine xi_ldc2 (z := -65535) hx hb S.2.2.2.1 S.2.2.2.2 q1188 (by decide +kernel) dX3_eighths_15 ?_
    refine xi_ldc2 (z := 65535) hx hb S.2.2.2.1 S.2.2.2.2 q1189 (by decide +kernel) dX3_eighths_18 ?_
    refine x_c0S (as := [.long (jI (t)), .long (jI (-65535)), .long (jI (65535))]) (rest := [.ref (h)]) S hK (c_X3_isIn l G H_c_2 (t) (-65535) (65535) (by omega) (by omega) (by omega) ) q1177 q1178 q43 q1179 hdX3_isIn ⟨by decide, by decide⟩ hl.1 rfl rfl (Nat.le_of_ble_eq_true rfl) ⟨Nat.le_of_ble_eq_true rfl, Nat.le_of_ble_eq_true rfl⟩ dX3_eighths_21 ?_
    refine xi_ifb_ne (tgt := 31) hx hb dX3_eighths_24 (by decide) (fun c_24 => ?_) (fun c_24 => ?_)
    · skip
      refine xi_iconst hx hb dX3_eighths_31 ?_
      refine xi_iconst hx hb dX3_eighths_32 ?_
      have hw_o_4 := hw_r_3
      obtain ⟨rb_o_4, hm_o_4, hq_o_4, hr_o_4, hza_o_4, hzc_o_4⟩ := hw_o_4
      refine x_c1V (as := [.int (iI (0)), .int (iI (2))]) (rest := []) S hK hm_o_4 rfl rfl (c_X3_refuse l G H_c_2 (mc) (0) (ac) (no) (kn) (cc) (h) (False) (2) (by omega) (by first | assumption | omega) (by first | assumption | omega) (by first | assumption | omega) (by assumption) (by omega) (by omega) hw_r_3) q1184 q1186 qs10 q43 q1187 hdX3_refuse ⟨by decide, by decide⟩ hl.1 rfl rfl (Nat.le_of_ble_eq_true rfl) ⟨Nat.le_of_ble_eq_true rfl, Nat.le_of_ble_eq_true rfl⟩ hS (fun q e => Or.inl (Or.inl e)) (fun q z => Or.inr z) dX3_eighths_33 (fun rv_c_5 H_c_5 locs hp_c_5 k_c_5 hS => ?_)
      have kw := kw.then k_c_5 (fun q e _ => Or.inl e)
      have hK := hK.keep k_c_5 (fun q e => by have e : q = h := e; omega)
      obtain ⟨th_r_6, hth_r_6, rfl, hw_r_6⟩ := hp_c_5
      have hth_r_6 := hth_r_6.elim (fun z => z.1.1.elim) (fun z => z.2)
      refine W.eq (g2 := F0 m 36 ls [.int (iI (b2i (0 < (th_r_6))))]) rfl ?_
      refine xi_ifb_eq (tgt := 41) hx hb dX3_eighths_36 (by decide) (fun c_36 => ?_) (fun c_36 => ?_)
      · skip
        obtain rfl : th_r_6 = 0 := by omega
        refine lv_aload_n hx hb dX3_eighths_41 rfl (lv_at hl 0 rfl) ?_
        refine lv_iload_n hx hb dX3_eighths_42 rfl (lv_at hl 1 rfl) ?_
        refine lv_iload_n hx hb dX3_eighths_43 rfl (lv_at hl 2 rfl) ?_
        refine x_c1S (as := [.int (iI (t))]) (rest := [.int (iI (k)), .ref (h)]) S hK (c_X3_exact l G H_c_5 (t) (by omega) ) q1139 q1140 q43 q1141 hdX3_exact ⟨by decide, by decide⟩ hl.1 rfl rfl (Nat.le_of_ble_eq_true rfl) ⟨Nat.le_of_ble_eq_true rfl, Nat.le_of_ble_eq_true rfl⟩ hS (fun _ z => z.elim) (fun q z => Or.inr z) dX3_eighths_44 (fun rv_c_7 H_c_7 locs hp_c_7 k_c_7 hS => ?_)
        have kw := kw.then k_c_7 (fun q z _ => z.elim)
        have hK := hK.ext k_c_7
        have hw_r_6 := hw_r_6.ext k_c_7
        obtain ⟨a_r_8, rfl, hq_r_8⟩ := hp_c_7
        refine W.eq (g2 := F0 m 47 ls [.ref (a_r_8), .int (iI (k)), .ref (h)]) rfl ?_
        have hw_o_9 := hw_r_6
        obtain ⟨rb_o_9, hm_o_9, hq_o_9, hr_o_9, hza_o_9, hzc_o_9⟩ := hw_o_9
        refine x_c1V (as := [.int (iI (k)), .ref (a_r_8)]) (rest := []) S hK hm_o_9 rfl rfl (c_X3_come l G H_c_7 (mc) (0) (ac) (no) (kn) (cc) (mk 0 (t)) (h) (k) (a_r_8) (by omega) (by first | assumption | omega) (by first | assumption | omega) (by first | assumption | omega) (by assumption) (by omega) (by first | assumption | exact okR_b (by assumption) | exact bRow_mk (by omega) (by omega) | (apply hbc; omega) | exact bRow_b (by omega) | exact bRow_t (by omega) | omega) hw_r_6 hq_r_8) q1190 q1192 qs11 q43 q1193 hdX3_come ⟨by decide, by decide⟩ hl.1 rfl rfl (Nat.le_of_ble_eq_true rfl) ⟨Nat.le_of_ble_eq_true rfl, Nat.le_of_ble_eq_true rfl⟩ hS (fun q z => Or.inl z) (fun q z => Or.inr z) dX3_eighths_47 (fun rv_c_10 H_c_10 locs hp_c_10 k_c_10 hS => ?_)
        have kw := kw.then k_c_10 (fun q e _ => e)
        have hq_r_8 := hq_r_8.keep k_c_10 (fun z => z.elim (Ne.symm (ne_oa hK rfl rfl hm_o_9 hq_r_8)) (ne_len hq_r_8 hq_o_9 (Nat.ne_of_beq_eq_false rfl)))
        have hK := hK.keep k_c_10 (fun q e => by have e : q = h ∨ q = mc := e; omega)
        obtain ⟨rfl, hw_r_11⟩ := hp_c_10
        refine W.eq (g2 := F0 m 50 ls [.int (iI (b2i (¬ alikeR ((cc) (k).toNat) (mk 0 (t)))))]) rfl ?_
        refine x_ret1i hx hb hr hlk hH hS (by omega) (by omega) ?_ dX3_eighths_50
        first | (exfalso; omega) | exact ⟨(_, _, _, _, _), (by unfold op_eighths; (repeat (first | with_reducible refine ifp (by omega) ?_ | with_reducible refine ifn (by omega) ?_)); first | rfl | exact comeF_s (by assumption) | exact comeF_n (by assumption) | exact comeF_s (if_pos (by omega)) | exact comeF_n (if_neg (by omega))), rfl, hw_r_11⟩
      · skip
        obtain rfl : th_r_6 = 2 := by omega
        refine xi_iconst hx hb dX3_eighths_39 ?_
        refine x_ret1i hx hb hr hlk hH hS (by omega) (by omega) ?_ dX3_eighths_40
        first | (exfalso; omega) | exact ⟨(_, _, _, _, _), (by unfold op_eighths; (repeat (first | with_reducible refine ifp (by omega) ?_ | with_reducible refine ifn (by omega) ?_)); first | rfl | exact comeF_s (by assumption) | exact comeF_n (by assumption) | exact comeF_s (if_pos (by omega)) | exact comeF_n (if_neg (by omega))), rfl, hw_r_6⟩
    · skip
      refine xi_iconst hx hb dX3_eighths_27 ?_
      refine lv_goto (tgt := 32) hx hb dX3_eighths_28 (by decide) ?_
      refine xi_iconst hx hb dX3_eighths_32 ?_
      have hw_o_12 := hw_r_3
      obtain ⟨rb_o_12, hm_o_12, hq_o_12, hr_o_12, hza_o_12, hzc_o_12⟩ := hw_o_12
      refine x_c1V (as := [.int (iI (1)), .int (iI (2))]) (rest := []) S hK hm_o_12 rfl rfl (c_X3_refuse l G H_c_2 (mc) (0) (ac) (no) (kn) (cc) (h) (True) (2) (by omega) (by first | assumption | omega) (by first | assumption | omega) (by first | assumption | omega) (by assumption) (by omega) (by omega) hw_r_3) q1184 q1186 qs10 q43 q1187 hdX3_refuse ⟨by decide, by decide⟩ hl.1 rfl rfl (Nat.le_of_ble_eq_true rfl) ⟨Nat.le_of_ble_eq_true rfl, Nat.le_of_ble_eq_true rfl⟩ hS (fun q e => Or.inl (Or.inl e)) (fun q z => Or.inr z) dX3_eighths_33 (fun rv_c_13 H_c_13 locs hp_c_13 k_c_13 hS => ?_)
      have kw := kw.then k_c_13 (fun q e _ => Or.inl e)
      have hK := hK.keep k_c_13 (fun q e => by have e : q = h := e; omega)
      obtain ⟨th_r_14, hth_r_14, rfl, hw_r_14⟩ := hp_c_13
      have hth_r_14 : ((0 : Int) = 0 ∧ th_r_14 = (2)) ∨ ((0 : Int) ≠ 0 ∧ th_r_14 = (0)) := hth_r_14.elim (fun z => Or.inl ⟨z.1.2, z.2⟩) (fun z => Or.inr ⟨fun y => z.1 ⟨trivial, y⟩, z.2⟩)
      refine W.eq (g2 := F0 m 36 ls [.int (iI (b2i (0 < (th_r_14))))]) rfl ?_
      refine xi_ifb_eq (tgt := 41) hx hb dX3_eighths_36 (by decide) (fun c_36 => ?_) (fun c_36 => ?_)
      · skip
        obtain rfl : th_r_14 = 0 := by omega
        refine lv_aload_n hx hb dX3_eighths_41 rfl (lv_at hl 0 rfl) ?_
        refine lv_iload_n hx hb dX3_eighths_42 rfl (lv_at hl 1 rfl) ?_
        refine lv_iload_n hx hb dX3_eighths_43 rfl (lv_at hl 2 rfl) ?_
        refine x_c1S (as := [.int (iI (t))]) (rest := [.int (iI (k)), .ref (h)]) S hK (c_X3_exact l G H_c_13 (t) (by omega) ) q1139 q1140 q43 q1141 hdX3_exact ⟨by decide, by decide⟩ hl.1 rfl rfl (Nat.le_of_ble_eq_true rfl) ⟨Nat.le_of_ble_eq_true rfl, Nat.le_of_ble_eq_true rfl⟩ hS (fun _ z => z.elim) (fun q z => Or.inr z) dX3_eighths_44 (fun rv_c_15 H_c_15 locs hp_c_15 k_c_15 hS => ?_)
        have kw := kw.then k_c_15 (fun q z _ => z.elim)
        have hK := hK.ext k_c_15
        have hw_r_14 := hw_r_14.ext k_c_15
        obtain ⟨a_r_16, rfl, hq_r_16⟩ := hp_c_15
        refine W.eq (g2 := F0 m 47 ls [.ref (a_r_16), .int (iI (k)), .ref (h)]) rfl ?_
        have hw_o_17 := hw_r_14
        obtain ⟨rb_o_17, hm_o_17, hq_o_17, hr_o_17, hza_o_17, hzc_o_17⟩ := hw_o_17
        refine x_c1V (as := [.int (iI (k)), .ref (a_r_16)]) (rest := []) S hK hm_o_17 rfl rfl (c_X3_come l G H_c_15 (mc) (0) (ac) (no) (kn) (cc) (mk 0 (t)) (h) (k) (a_r_16) (by omega) (by first | assumption | omega) (by first | assumption | omega) (by first | assumption | omega) (by assumption) (by omega) (by first | assumption | exact okR_b (by assumption) | exact bRow_mk (by omega) (by omega) | (apply hbc; omega) | exact bRow_b (by omega) | exact bRow_t (by omega) | omega) hw_r_14 hq_r_16) q1190 q1192 qs11 q43 q1193 hdX3_come ⟨by decide, by decide⟩ hl.1 rfl rfl (Nat.le_of_ble_eq_true rfl) ⟨Nat.le_of_ble_eq_true rfl, Nat.le_of_ble_eq_true rfl⟩ hS (fun q z => Or.inl z) (fun q z => Or.inr z) dX3_eighths_47 (fun rv_c_18 H_c_18 locs hp_c_18 k_c_18 hS => ?_)
        have kw := kw.then k_c_18 (fun q e _ => e)
        have hq_r_16 := hq_r_16.keep k_c_18 (fun z => z.elim (Ne.symm (ne_oa hK rfl rfl hm_o_17 hq_r_16)) (ne_len hq_r_16 hq_o_17 (Nat.ne_of_beq_eq_false rfl)))
        have hK := hK.keep k_c_18 (fun q e => by have e : q = h ∨ q = mc := e; omega)
        obtain ⟨rfl, hw_r_19⟩ := hp_c_18
        refine W.eq (g2 := F0 m 50 ls [.int (iI (b2i (¬ alikeR ((cc) (k).toNat) (mk 0 (t)))))]) rfl ?_
        refine x_ret1i hx hb hr hlk hH hS (by omega) (by omega) ?_ dX3_eighths_50
        first | (exfalso; omega) | exact ⟨(_, _, _, _, _), (by unfold op_eighths; (repeat (first | with_reducible refine ifp (by omega) ?_ | with_reducible refine ifn (by omega) ?_)); first | rfl | exact comeF_s (by assumption) | exact comeF_n (by assumption) | exact comeF_s (if_pos (by omega)) | exact comeF_n (if_neg (by omega))), rfl, hw_r_19⟩
      · skip
        obtain rfl : th_r_14 = 2 := by omega
        refine xi_iconst hx hb dX3_eighths_39 ?_
        refine x_ret1i hx hb hr hlk hH hS (by omega) (by omega) ?_ dX3_eighths_40
        first | (exfalso; omega) | exact ⟨(_, _, _, _, _), (by unfold op_eighths; (repeat (first | with_reducible refine ifp (by omega) ?_ | with_reducible refine ifn (by omega) ?_)); first | rfl | exact comeF_s (by assumption) | exact comeF_n (by assumption) | exact comeF_s (if_pos (by omega)) | exact comeF_n (if_neg (by omega))), rfl, hw_r_14⟩

theorem hpX3_units : plainFor yX3_units = true := by decide +kernel
theorem hdX3_units : nMH yX3_units 2 := by decide +kernel
set_option maxHeartbeats 4000000 in
theorem c_X3_units (l : Launch) (G : GG) (H0 : Heap) (mc : Nat) (th : Int) (ac : Int) (no : Int) (kn : Int) (cc : Nat → Row) (h : Nat) (k : Int) (t : Int) (r_k : -2147483648 ≤ k ∧ k < 2147483648) (r_t : -2147483648 ≤ t ∧ t < 2147483648) (hac : 0 ≤ ac ∧ ac ≤ 1000) (hno : 0 ≤ no ∧ no ≤ 1000) (hkn : 0 ≤ kn ∧ kn ≤ 1000) (hok : ∀ k : Nat, k < 8 → okR (cc k)) (hw : MW G (h) (mc) (th) (ac) (no) (kn) (cc) H0) : Ct1 l G yX3_units cX3_units 3 (Option.some Jvm.ClassFile.FieldType.int) 3 1 3 61 [.ref (h), .int (iI (k)), .int (iI (t))] H0 (fun q => q = h ∨ q = mc) (fun (rv : Option Value) (H1 : Heap) => ∃ z : Res, op_units ac no cc (k) (t) = z ∧ rv = some (.int (iI z.2.1)) ∧ MW G h mc z.1 z.2.2.1 z.2.2.2.1 kn z.2.2.2.2 H1) := by
  refine Ct1.start hpX3_units (Nat.le_of_ble_eq_true rfl) ?_
  intro p e s m below meth c ls hx hb hr S hlk hname hH hK hS hl
  have hl : lv_has ls 3 [(0, .ref (h)), (1, .int (iI (k))), (2, .int (iI (t)))] := hl
  have hbc : ∀ k : Nat, k < 8 → bRow (cc k) := fun k h => okR_b (hok k h)
  have kw : Keep (fun q => q = h ∨ q = mc) H0 H0 := Keep.rf
  have hz0 := hK.2.2.1
  refine lv_aload_n hx hb dX3_units_0 rfl (lv_at hl 0 rfl) ?_
  refine lv_iload_n hx hb dX3_units_1 rfl (lv_at hl 1 rfl) ?_
  refine x_c0S (as := [.int (iI (k))]) (rest := [.ref (h)]) S hK (c_X3_isNoCell l G H0 (k) (by omega) ) q1173 q1174 q43 q1175 hdX3_isNoCell ⟨by decide, by decide⟩ hl.1 rfl rfl (Nat.le_of_ble_eq_true rfl) ⟨Nat.le_of_ble_eq_true rfl, Nat.le_of_ble_eq_true rfl⟩ dX3_units_2 ?_
  refine xi_iconst hx hb dX3_units_5 ?_
  have hw_o_1 := hw
  obtain ⟨rb_o_1, hm_o_1, hq_o_1, hr_o_1, hza_o_1, hzc_o_1⟩ := hw_o_1
  refine x_c1V (as := [.int (iI (b2i (¬ (0 ≤ (k) ∧ (k) ≤ 7)))), .int (iI (1))]) (rest := []) S hK hm_o_1 rfl rfl (c_X3_start l G H0 (mc) (th) (ac) (no) (kn) (cc) (h) (¬ (0 ≤ (k) ∧ (k) ≤ 7)) (1) (by omega) (by first | assumption | omega) (by first | assumption | omega) (by first | assumption | omega) (by assumption) (by omega) hw) q1180 q1182 qs9 q43 q1183 hdX3_start ⟨by decide, by decide⟩ hl.1 rfl rfl (Nat.le_of_ble_eq_true rfl) ⟨Nat.le_of_ble_eq_true rfl, Nat.le_of_ble_eq_true rfl⟩ hS (fun q e => Or.inl (Or.inl e)) (fun q z => Or.inr z) dX3_units_6 (fun rv_c_2 H_c_2 locs hp_c_2 k_c_2 hS => ?_)
  have kw := kw.then k_c_2 (fun q e _ => Or.inl e)
  have hK := hK.keep k_c_2 (fun q e => by have e : q = h := e; omega)
  obtain ⟨th_r_3, hth_r_3, rfl, hw_r_3⟩ := hp_c_2
  refine W.eq (g2 := F0 m 9 ls [.int (iI (b2i (0 < (th_r_3))))]) rfl ?_
  refine xi_ifb_ne (tgt := 39) hx hb dX3_units_9 (by decide) (fun c_9 => ?_) (fun c_9 => ?_)
  · skip
    obtain rfl : th_r_3 = 1 := by omega
    refine xi_iconst hx hb dX3_units_39 ?_
    refine x_ret1i hx hb hr hlk hH hS (by omega) (by omega) ?_ dX3_units_40
    first | (exfalso; omega) | exact ⟨(_, _, _, _, _), (by unfold op_units; (repeat (first | with_reducible refine ifp (by omega) ?_ | with_reducible refine ifn (by omega) ?_)); first | rfl | exact comeF_s (by assumption) | exact comeF_n (by assumption) | exact comeF_s (if_pos (by omega)) | exact comeF_n (if_neg (by omega))), rfl, hw_r_3⟩
  · skip
    obtain rfl : th_r_3 = 0 := by omega
    refine lv_aload_n hx hb dX3_units_12 rfl (lv_at hl 0 rfl) ?_
    refine lv_iload_n hx hb dX3_units_13 rfl (lv_at hl 2 rfl) ?_
    refine xi_i2l hx hb (by omega) dX3_units_14 ?_
    refine xi_ldc2 (z := -65535) hx hb S.2.2.2.1 S.2.2.2.2 q1188 (by decide +kernel) dX3_units_15 ?_
    refine xi_ldc2 (z := 65535) hx hb S.2.2.2.1 S.2.2.2.2 q1189 (by decide +kernel) dX3_units_18 ?_
    refine x_c0S (as := [.long (jI (t)), .long (jI (-65535)), .long (jI (65535))]) (rest := [.ref (h)]) S hK (c_X3_isIn l G H_c_2 (t) (-65535) (65535) (by omega) (by omega) (by omega) ) q1177 q1178 q43 q1179 hdX3_isIn ⟨by decide, by decide⟩ hl.1 rfl rfl (Nat.le_of_ble_eq_true rfl) ⟨Nat.le_of_ble_eq_true rfl, Nat.le_of_ble_eq_true rfl⟩ dX3_units_21 ?_
    refine xi_ifb_ne (tgt := 31) hx hb dX3_units_24 (by decide) (fun c_24 => ?_) (fun c_24 => ?_)
    · skip
      refine xi_iconst hx hb dX3_units_31 ?_
      refine xi_iconst hx hb dX3_units_32 ?_
      have hw_o_4 := hw_r_3
      obtain ⟨rb_o_4, hm_o_4, hq_o_4, hr_o_4, hza_o_4, hzc_o_4⟩ := hw_o_4
      refine x_c1V (as := [.int (iI (0)), .int (iI (2))]) (rest := []) S hK hm_o_4 rfl rfl (c_X3_refuse l G H_c_2 (mc) (0) (ac) (no) (kn) (cc) (h) (False) (2) (by omega) (by first | assumption | omega) (by first | assumption | omega) (by first | assumption | omega) (by assumption) (by omega) (by omega) hw_r_3) q1184 q1186 qs10 q43 q1187 hdX3_refuse ⟨by decide, by decide⟩ hl.1 rfl rfl (Nat.le_of_ble_eq_true rfl) ⟨Nat.le_of_ble_eq_true rfl, Nat.le_of_ble_eq_true rfl⟩ hS (fun q e => Or.inl (Or.inl e)) (fun q z => Or.inr z) dX3_units_33 (fun rv_c_5 H_c_5 locs hp_c_5 k_c_5 hS => ?_)
      have kw := kw.then k_c_5 (fun q e _ => Or.inl e)
      have hK := hK.keep k_c_5 (fun q e => by have e : q = h := e; omega)
      obtain ⟨th_r_6, hth_r_6, rfl, hw_r_6⟩ := hp_c_5
      have hth_r_6 := hth_r_6.elim (fun z => z.1.1.elim) (fun z => z.2)
      refine W.eq (g2 := F0 m 36 ls [.int (iI (b2i (0 < (th_r_6))))]) rfl ?_
      refine xi_ifb_eq (tgt := 41) hx hb dX3_units_36 (by decide) (fun c_36 => ?_) (fun c_36 => ?_)
      · skip
        obtain rfl : th_r_6 = 0 := by omega
        refine lv_aload_n hx hb dX3_units_41 rfl (lv_at hl 0 rfl) ?_
        refine lv_iload_n hx hb dX3_units_42 rfl (lv_at hl 1 rfl) ?_
        refine xi_bipush hx hb (by decide) dX3_units_43 ?_
        refine lv_iload_n hx hb dX3_units_45 rfl (lv_at hl 2 rfl) ?_
        refine xi_imul hx hb dX3_units_46 ?_
        refine x_c1S (as := [.int (iI ((8) * (t)))]) (rest := [.int (iI (k)), .ref (h)]) S hK (c_X3_exact l G H_c_5 ((8) * (t)) (by omega) ) q1139 q1140 q43 q1141 hdX3_exact ⟨by decide, by decide⟩ hl.1 rfl rfl (Nat.le_of_ble_eq_true rfl) ⟨Nat.le_of_ble_eq_true rfl, Nat.le_of_ble_eq_true rfl⟩ hS (fun _ z => z.elim) (fun q z => Or.inr z) dX3_units_47 (fun rv_c_7 H_c_7 locs hp_c_7 k_c_7 hS => ?_)
        have kw := kw.then k_c_7 (fun q z _ => z.elim)
        have hK := hK.ext k_c_7
        have hw_r_6 := hw_r_6.ext k_c_7
        obtain ⟨a_r_8, rfl, hq_r_8⟩ := hp_c_7
        refine W.eq (g2 := F0 m 50 ls [.ref (a_r_8), .int (iI (k)), .ref (h)]) rfl ?_
        have hw_o_9 := hw_r_6
        obtain ⟨rb_o_9, hm_o_9, hq_o_9, hr_o_9, hza_o_9, hzc_o_9⟩ := hw_o_9
        refine x_c1V (as := [.int (iI (k)), .ref (a_r_8)]) (rest := []) S hK hm_o_9 rfl rfl (c_X3_come l G H_c_7 (mc) (0) (ac) (no) (kn) (cc) (mk 0 (((8) * (t)))) (h) (k) (a_r_8) (by omega) (by first | assumption | omega) (by first | assumption | omega) (by first | assumption | omega) (by assumption) (by omega) (by first | assumption | exact okR_b (by assumption) | exact bRow_mk (by omega) (by omega) | (apply hbc; omega) | exact bRow_b (by omega) | exact bRow_t (by omega) | omega) hw_r_6 hq_r_8) q1190 q1192 qs11 q43 q1193 hdX3_come ⟨by decide, by decide⟩ hl.1 rfl rfl (Nat.le_of_ble_eq_true rfl) ⟨Nat.le_of_ble_eq_true rfl, Nat.le_of_ble_eq_true rfl⟩ hS (fun q z => Or.inl z) (fun q z => Or.inr z) dX3_units_50 (fun rv_c_10 H_c_10 locs hp_c_10 k_c_10 hS => ?_)
        have kw := kw.then k_c_10 (fun q e _ => e)
        have hq_r_8 := hq_r_8.keep k_c_10 (fun z => z.elim (Ne.symm (ne_oa hK rfl rfl hm_o_9 hq_r_8)) (ne_len hq_r_8 hq_o_9 (Nat.ne_of_beq_eq_false rfl)))
        have hK := hK.keep k_c_10 (fun q e => by have e : q = h ∨ q = mc := e; omega)
        obtain ⟨rfl, hw_r_11⟩ := hp_c_10
        refine W.eq (g2 := F0 m 53 ls [.int (iI (b2i (¬ alikeR ((cc) (k).toNat) (mk 0 (((8) * (t)))))))]) rfl ?_
        refine x_ret1i hx hb hr hlk hH hS (by omega) (by omega) ?_ dX3_units_53
        first | (exfalso; omega) | exact ⟨(_, _, _, _, _), (by unfold op_units; (repeat (first | with_reducible refine ifp (by omega) ?_ | with_reducible refine ifn (by omega) ?_)); first | rfl | exact comeF_s (by assumption) | exact comeF_n (by assumption) | exact comeF_s (if_pos (by omega)) | exact comeF_n (if_neg (by omega))), rfl, hw_r_11⟩
      · skip
        obtain rfl : th_r_6 = 2 := by omega
        refine xi_iconst hx hb dX3_units_39 ?_
        refine x_ret1i hx hb hr hlk hH hS (by omega) (by omega) ?_ dX3_units_40
        first | (exfalso; omega) | exact ⟨(_, _, _, _, _), (by unfold op_units; (repeat (first | with_reducible refine ifp (by omega) ?_ | with_reducible refine ifn (by omega) ?_)); first | rfl | exact comeF_s (by assumption) | exact comeF_n (by assumption) | exact comeF_s (if_pos (by omega)) | exact comeF_n (if_neg (by omega))), rfl, hw_r_6⟩
    · skip
      refine xi_iconst hx hb dX3_units_27 ?_
      refine lv_goto (tgt := 32) hx hb dX3_units_28 (by decide) ?_
      refine xi_iconst hx hb dX3_units_32 ?_
      have hw_o_12 := hw_r_3
      obtain ⟨rb_o_12, hm_o_12, hq_o_12, hr_o_12, hza_o_12, hzc_o_12⟩ := hw_o_12
      refine x_c1V (as := [.int (iI (1)), .int (iI (2))]) (rest := []) S hK hm_o_12 rfl rfl (c_X3_refuse l G H_c_2 (mc) (0) (ac) (no) (kn) (cc) (h) (True) (2) (by omega) (by first | assumption | omega) (by first | assumption | omega) (by first | assumption | omega) (by assumption) (by omega) (by omega) hw_r_3) q1184 q1186 qs10 q43 q1187 hdX3_refuse ⟨by decide, by decide⟩ hl.1 rfl rfl (Nat.le_of_ble_eq_true rfl) ⟨Nat.le_of_ble_eq_true rfl, Nat.le_of_ble_eq_true rfl⟩ hS (fun q e => Or.inl (Or.inl e)) (fun q z => Or.inr z) dX3_units_33 (fun rv_c_13 H_c_13 locs hp_c_13 k_c_13 hS => ?_)
      have kw := kw.then k_c_13 (fun q e _ => Or.inl e)
      have hK := hK.keep k_c_13 (fun q e => by have e : q = h := e; omega)
      obtain ⟨th_r_14, hth_r_14, rfl, hw_r_14⟩ := hp_c_13
      have hth_r_14 : ((0 : Int) = 0 ∧ th_r_14 = (2)) ∨ ((0 : Int) ≠ 0 ∧ th_r_14 = (0)) := hth_r_14.elim (fun z => Or.inl ⟨z.1.2, z.2⟩) (fun z => Or.inr ⟨fun y => z.1 ⟨trivial, y⟩, z.2⟩)
      refine W.eq (g2 := F0 m 36 ls [.int (iI (b2i (0 < (th_r_14))))]) rfl ?_
      refine xi_ifb_eq (tgt := 41) hx hb dX3_units_36 (by decide) (fun c_36 => ?_) (fun c_36 => ?_)
      · skip
        obtain rfl : th_r_14 = 0 := by omega
        refine lv_aload_n hx hb dX3_units_41 rfl (lv_at hl 0 rfl) ?_
        refine lv_iload_n hx hb dX3_units_42 rfl (lv_at hl 1 rfl) ?_
        refine xi_bipush hx hb (by decide) dX3_units_43 ?_
        refine lv_iload_n hx hb dX3_units_45 rfl (lv_at hl 2 rfl) ?_
        refine xi_imul hx hb dX3_units_46 ?_
        refine x_c1S (as := [.int (iI ((8) * (t)))]) (rest := [.int (iI (k)), .ref (h)]) S hK (c_X3_exact l G H_c_13 ((8) * (t)) (by omega) ) q1139 q1140 q43 q1141 hdX3_exact ⟨by decide, by decide⟩ hl.1 rfl rfl (Nat.le_of_ble_eq_true rfl) ⟨Nat.le_of_ble_eq_true rfl, Nat.le_of_ble_eq_true rfl⟩ hS (fun _ z => z.elim) (fun q z => Or.inr z) dX3_units_47 (fun rv_c_15 H_c_15 locs hp_c_15 k_c_15 hS => ?_)
        have kw := kw.then k_c_15 (fun q z _ => z.elim)
        have hK := hK.ext k_c_15
        have hw_r_14 := hw_r_14.ext k_c_15
        obtain ⟨a_r_16, rfl, hq_r_16⟩ := hp_c_15
        refine W.eq (g2 := F0 m 50 ls [.ref (a_r_16), .int (iI (k)), .ref (h)]) rfl ?_
        have hw_o_17 := hw_r_14
        obtain ⟨rb_o_17, hm_o_17, hq_o_17, hr_o_17, hza_o_17, hzc_o_17⟩ := hw_o_17
        refine x_c1V (as := [.int (iI (k)), .ref (a_r_16)]) (rest := []) S hK hm_o_17 rfl rfl (c_X3_come l G H_c_15 (mc) (0) (ac) (no) (kn) (cc) (mk 0 (((8) * (t)))) (h) (k) (a_r_16) (by omega) (by first | assumption | omega) (by first | assumption | omega) (by first | assumption | omega) (by assumption) (by omega) (by first | assumption | exact okR_b (by assumption) | exact bRow_mk (by omega) (by omega) | (apply hbc; omega) | exact bRow_b (by omega) | exact bRow_t (by omega) | omega) hw_r_14 hq_r_16) q1190 q1192 qs11 q43 q1193 hdX3_come ⟨by decide, by decide⟩ hl.1 rfl rfl (Nat.le_of_ble_eq_true rfl) ⟨Nat.le_of_ble_eq_true rfl, Nat.le_of_ble_eq_true rfl⟩ hS (fun q z => Or.inl z) (fun q z => Or.inr z) dX3_units_50 (fun rv_c_18 H_c_18 locs hp_c_18 k_c_18 hS => ?_)
        have kw := kw.then k_c_18 (fun q e _ => e)
        have hq_r_16 := hq_r_16.keep k_c_18 (fun z => z.elim (Ne.symm (ne_oa hK rfl rfl hm_o_17 hq_r_16)) (ne_len hq_r_16 hq_o_17 (Nat.ne_of_beq_eq_false rfl)))
        have hK := hK.keep k_c_18 (fun q e => by have e : q = h ∨ q = mc := e; omega)
        obtain ⟨rfl, hw_r_19⟩ := hp_c_18
        refine W.eq (g2 := F0 m 53 ls [.int (iI (b2i (¬ alikeR ((cc) (k).toNat) (mk 0 (((8) * (t)))))))]) rfl ?_
        refine x_ret1i hx hb hr hlk hH hS (by omega) (by omega) ?_ dX3_units_53
        first | (exfalso; omega) | exact ⟨(_, _, _, _, _), (by unfold op_units; (repeat (first | with_reducible refine ifp (by omega) ?_ | with_reducible refine ifn (by omega) ?_)); first | rfl | exact comeF_s (by assumption) | exact comeF_n (by assumption) | exact comeF_s (if_pos (by omega)) | exact comeF_n (if_neg (by omega))), rfl, hw_r_19⟩
      · skip
        obtain rfl : th_r_14 = 2 := by omega
        refine xi_iconst hx hb dX3_units_39 ?_
        refine x_ret1i hx hb hr hlk hH hS (by omega) (by omega) ?_ dX3_units_40
        first | (exfalso; omega) | exact ⟨(_, _, _, _, _), (by unfold op_units; (repeat (first | with_reducible refine ifp (by omega) ?_ | with_reducible refine ifn (by omega) ?_)); first | rfl | exact comeF_s (by assumption) | exact comeF_n (by assumption) | exact comeF_s (if_pos (by omega)) | exact comeF_n (if_neg (by omega))), rfl, hw_r_14⟩

theorem hpX3_zero : plainFor yX3_zero = true := by decide +kernel
theorem hdX3_zero : nMH yX3_zero 2 := by decide +kernel
set_option maxHeartbeats 4000000 in
theorem c_X3_zero (l : Launch) (G : GG) (H0 : Heap) (mc : Nat) (th : Int) (ac : Int) (no : Int) (kn : Int) (cc : Nat → Row) (h : Nat) (k : Int) (P : Prop) [Decidable P] (r_k : -2147483648 ≤ k ∧ k < 2147483648) (hac : 0 ≤ ac ∧ ac ≤ 1000) (hno : 0 ≤ no ∧ no ≤ 1000) (hkn : 0 ≤ kn ∧ kn ≤ 1000) (hok : ∀ k : Nat, k < 8 → okR (cc k)) (hw : MW G (h) (mc) (th) (ac) (no) (kn) (cc) H0) : Ct1 l G yX3_zero cX3_zero 3 (Option.some Jvm.ClassFile.FieldType.int) 2 1 3 45 [.ref (h), .int (iI (k)), .int (iI (b2i (P)))] H0 (fun q => q = h ∨ q = mc) (fun (rv : Option Value) (H1 : Heap) => ∃ z : Res, op_zero ac no cc (k) (P) = z ∧ rv = some (.int (iI z.2.1)) ∧ MW G h mc z.1 z.2.2.1 z.2.2.2.1 kn z.2.2.2.2 H1) := by
  refine Ct1.start hpX3_zero (Nat.le_of_ble_eq_true rfl) ?_
  intro p e s m below meth c ls hx hb hr S hlk hname hH hK hS hl
  have hl : lv_has ls 3 [(0, .ref (h)), (1, .int (iI (k))), (2, .int (iI (b2i (P))))] := hl
  have hbc : ∀ k : Nat, k < 8 → bRow (cc k) := fun k h => okR_b (hok k h)
  have kw : Keep (fun q => q = h ∨ q = mc) H0 H0 := Keep.rf
  have hz0 := hK.2.2.1
  refine lv_aload_n hx hb dX3_zero_0 rfl (lv_at hl 0 rfl) ?_
  refine lv_iload_n hx hb dX3_zero_1 rfl (lv_at hl 1 rfl) ?_
  refine x_c0S (as := [.int (iI (k))]) (rest := [.ref (h)]) S hK (c_X3_isNoCell l G H0 (k) (by omega) ) q1173 q1174 q43 q1175 hdX3_isNoCell ⟨by decide, by decide⟩ hl.1 rfl rfl (Nat.le_of_ble_eq_true rfl) ⟨Nat.le_of_ble_eq_true rfl, Nat.le_of_ble_eq_true rfl⟩ dX3_zero_2 ?_
  refine xi_iconst hx hb dX3_zero_5 ?_
  have hw_o_1 := hw
  obtain ⟨rb_o_1, hm_o_1, hq_o_1, hr_o_1, hza_o_1, hzc_o_1⟩ := hw_o_1
  refine x_c1V (as := [.int (iI (b2i (¬ (0 ≤ (k) ∧ (k) ≤ 7)))), .int (iI (1))]) (rest := []) S hK hm_o_1 rfl rfl (c_X3_start l G H0 (mc) (th) (ac) (no) (kn) (cc) (h) (¬ (0 ≤ (k) ∧ (k) ≤ 7)) (1) (by omega) (by first | assumption | omega) (by first | assumption | omega) (by first | assumption | omega) (by assumption) (by omega) hw) q1180 q1182 qs9 q43 q1183 hdX3_start ⟨by decide, by decide⟩ hl.1 rfl rfl (Nat.le_of_ble_eq_true rfl) ⟨Nat.le_of_ble_eq_true rfl, Nat.le_of_ble_eq_true rfl⟩ hS (fun q e => Or.inl (Or.inl e)) (fun q z => Or.inr z) dX3_zero_6 (fun rv_c_2 H_c_2 locs hp_c_2 k_c_2 hS => ?_)
  have kw := kw.then k_c_2 (fun q e _ => Or.inl e)
  have hK := hK.keep k_c_2 (fun q e => by have e : q = h := e; omega)
  obtain ⟨th_r_3, hth_r_3, rfl, hw_r_3⟩ := hp_c_2
  refine W.eq (g2 := F0 m 9 ls [.int (iI (b2i (0 < (th_r_3))))]) rfl ?_
  refine xi_ifb_eq (tgt := 14) hx hb dX3_zero_9 (by decide) (fun c_9 => ?_) (fun c_9 => ?_)
  · skip
    obtain rfl : th_r_3 = 0 := by omega
    refine lv_aload_n hx hb dX3_zero_14 rfl (lv_at hl 0 rfl) ?_
    refine lv_iload_n hx hb dX3_zero_15 rfl (lv_at hl 1 rfl) ?_
    refine xi_iconst hx hb dX3_zero_16 ?_
    refine x_newai S hK q1164 (by omega) ⟨Nat.le_of_ble_eq_true rfl, Nat.le_of_ble_eq_true rfl⟩ hS dX3_zero_17 (fun a_n_4 H_n_4 ha_n_4 hq_n_4 k_n_4 hS => ?_)
    have hge_n_4 : H0.size ≤ a_n_4 := by rw [ha_n_4]; exact kw.1
    have sn_n_4_hw_r_3 := hw_r_3
    have kb_n_4 : Keep noW H_c_2 H_c_2 := Keep.rf
    have kw := kw.then k_n_4 (fun q z _ => z.elim)
    have hK := hK.ext k_n_4
    have kb_n_4 := kb_n_4.trans k_n_4
    have hw_r_3 := hw_r_3.ext k_n_4
    have hq_n_4 : IArr G a_n_4 3 (fun _ => 0) H_n_4 := hq_n_4
    refine lv_dup hx hb dX3_zero_19 rfl ?_
    refine xi_iconst hx hb dX3_zero_20 ?_
    refine xi_iconst hx hb dX3_zero_21 ?_
    refine x_iast S hK hq_n_4 (by omega) (by omega) hS (Or.inr (by omega)) dX3_zero_22 (fun H_s_5 locs hq_s_5 k_s_5 hz_s_5 hS => ?_)
    have kw := kw.then k_s_5 (fun q e hlt => by have e : q = a_n_4 := e; exact absurd hlt (by omega))
    have hK := hK.keep k_s_5 (fun q e => by have e : q = a_n_4 := e; omega)
    have kb_n_4 := kb_n_4.then k_s_5 (fun q e hlt => by have e : q = a_n_4 := e; exact absurd hlt (by omega))
    have hw_r_3 := sn_n_4_hw_r_3.ext kb_n_4
    have hq_n_4 : IArr G a_n_4 3 (upd (fun _ => 0) (0 : Int).toNat (iI (0))) H_s_5 := hq_s_5
    refine lv_dup hx hb dX3_zero_23 rfl ?_
    refine xi_iconst hx hb dX3_zero_24 ?_
    refine xi_iconst hx hb dX3_zero_25 ?_
    refine x_iast S hK hq_n_4 (by omega) (by omega) hS (Or.inr (by omega)) dX3_zero_26 (fun H_s_6 locs hq_s_6 k_s_6 hz_s_6 hS => ?_)
    have kw := kw.then k_s_6 (fun q e hlt => by have e : q = a_n_4 := e; exact absurd hlt (by omega))
    have hK := hK.keep k_s_6 (fun q e => by have e : q = a_n_4 := e; omega)
    have kb_n_4 := kb_n_4.then k_s_6 (fun q e hlt => by have e : q = a_n_4 := e; exact absurd hlt (by omega))
    have hw_r_3 := sn_n_4_hw_r_3.ext kb_n_4
    have hq_n_4 : IArr G a_n_4 3 (upd (upd (fun _ => 0) (0 : Int).toNat (iI (0))) (1 : Int).toNat (iI (0))) H_s_6 := hq_s_6
    refine lv_dup hx hb dX3_zero_27 rfl ?_
    refine xi_iconst hx hb dX3_zero_28 ?_
    refine lv_iload_n hx hb dX3_zero_29 rfl (lv_at hl 2 rfl) ?_
    refine x_c0S (as := [.int (iI (b2i (P)))]) (rest := [.int (iI (2)), .ref (a_n_4), .ref (a_n_4), .int (iI (k)), .ref (h)]) S hK (c_X3_one l G H_s_6 (P)  ) q1145 q1146 q43 q1147 hdX3_one ⟨by decide, by decide⟩ hl.1 rfl rfl (Nat.le_of_ble_eq_true rfl) ⟨Nat.le_of_ble_eq_true rfl, Nat.le_of_ble_eq_true rfl⟩ dX3_zero_30 ?_
    refine x_iast S hK hq_n_4 (by omega) (by omega) hS (Or.inr (by omega)) dX3_zero_33 (fun H_s_7 locs hq_s_7 k_s_7 hz_s_7 hS => ?_)
    have kw := kw.then k_s_7 (fun q e hlt => by have e : q = a_n_4 := e; exact absurd hlt (by omega))
    have hK := hK.keep k_s_7 (fun q e => by have e : q = a_n_4 := e; omega)
    have kb_n_4 := kb_n_4.then k_s_7 (fun q e hlt => by have e : q = a_n_4 := e; exact absurd hlt (by omega))
    have hw_r_3 := sn_n_4_hw_r_3.ext kb_n_4
    have hq_n_4 : IArr G a_n_4 3 (upd (upd (upd (fun _ => 0) (0 : Int).toNat (iI (0))) (1 : Int).toNat (iI (0))) (2 : Int).toNat (iI (b2i (P)))) H_s_7 := hq_s_7
    have hq_n_4 : RowAt G a_n_4 (0, 0, b2i (P)) H_s_7 := row_of hq_n_4
    have hw_o_8 := hw_r_3
    obtain ⟨rb_o_8, hm_o_8, hq_o_8, hr_o_8, hza_o_8, hzc_o_8⟩ := hw_o_8
    refine x_c1V (as := [.int (iI (k)), .ref (a_n_4)]) (rest := []) S hK hm_o_8 rfl rfl (c_X3_come l G H_s_7 (mc) (0) (ac) (no) (kn) (cc) ((0, 0, b2i (P))) (h) (k) (a_n_4) (by omega) (by first | assumption | omega) (by first | assumption | omega) (by first | assumption | omega) (by assumption) (by omega) (by first | assumption | exact okR_b (by assumption) | exact bRow_mk (by omega) (by omega) | (apply hbc; omega) | exact bRow_b (by omega) | exact bRow_t (by omega) | omega) hw_r_3 hq_n_4) q1190 q1192 qs11 q43 q1193 hdX3_come ⟨by decide, by decide⟩ hl.1 rfl rfl (Nat.le_of_ble_eq_true rfl) ⟨Nat.le_of_ble_eq_true rfl, Nat.le_of_ble_eq_true rfl⟩ hS (fun q z => Or.inl z) (fun q z => Or.inr z) dX3_zero_34 (fun rv_c_9 H_c_9 locs hp_c_9 k_c_9 hS => ?_)
    have kw := kw.then k_c_9 (fun q e _ => e)
    have hq_n_4 := hq_n_4.keep k_c_9 (fun z => z.elim (Ne.symm (ne_oa hK rfl rfl hm_o_8 hq_n_4)) (ne_len hq_n_4 hq_o_8 (Nat.ne_of_beq_eq_false rfl)))
    have hK := hK.keep k_c_9 (fun q e => by have e : q = h ∨ q = mc := e; omega)
    obtain ⟨rfl, hw_r_10⟩ := hp_c_9
    refine W.eq (g2 := F0 m 37 ls [.int (iI (b2i (¬ alikeR ((cc) (k).toNat) ((0, 0, b2i (P))))))]) rfl ?_
    refine x_ret1i hx hb hr hlk hH hS (by omega) (by omega) ?_ dX3_zero_37
    first | (exfalso; omega) | exact ⟨(_, _, _, _, _), (by unfold op_zero; (repeat (first | with_reducible refine ifp (by omega) ?_ | with_reducible refine ifn (by omega) ?_)); first | rfl | exact comeF_s (by assumption) | exact comeF_n (by assumption) | exact comeF_s (if_pos (by omega)) | exact comeF_n (if_neg (by omega))), rfl, hw_r_10⟩
  · skip
    obtain rfl : th_r_3 = 1 := by omega
    refine xi_iconst hx hb dX3_zero_12 ?_
    refine x_ret1i hx hb hr hlk hH hS (by omega) (by omega) ?_ dX3_zero_13
    first | (exfalso; omega) | exact ⟨(_, _, _, _, _), (by unfold op_zero; (repeat (first | with_reducible refine ifp (by omega) ?_ | with_reducible refine ifn (by omega) ?_)); first | rfl | exact comeF_s (by assumption) | exact comeF_n (by assumption) | exact comeF_s (if_pos (by omega)) | exact comeF_n (if_neg (by omega))), rfl, hw_r_3⟩

theorem hpX3_endless : plainFor yX3_endless = true := by decide +kernel
theorem hdX3_endless : nMH yX3_endless 2 := by decide +kernel
set_option maxHeartbeats 4000000 in
theorem c_X3_endless (l : Launch) (G : GG) (H0 : Heap) (mc : Nat) (th : Int) (ac : Int) (no : Int) (kn : Int) (cc : Nat → Row) (h : Nat) (k : Int) (P : Prop) [Decidable P] (r_k : -2147483648 ≤ k ∧ k < 2147483648) (hac : 0 ≤ ac ∧ ac ≤ 1000) (hno : 0 ≤ no ∧ no ≤ 1000) (hkn : 0 ≤ kn ∧ kn ≤ 1000) (hok : ∀ k : Nat, k < 8 → okR (cc k)) (hw : MW G (h) (mc) (th) (ac) (no) (kn) (cc) H0) : Ct1 l G yX3_endless cX3_endless 3 (Option.some Jvm.ClassFile.FieldType.int) 2 1 3 45 [.ref (h), .int (iI (k)), .int (iI (b2i (P)))] H0 (fun q => q = h ∨ q = mc) (fun (rv : Option Value) (H1 : Heap) => ∃ z : Res, op_endless ac no cc (k) (P) = z ∧ rv = some (.int (iI z.2.1)) ∧ MW G h mc z.1 z.2.2.1 z.2.2.2.1 kn z.2.2.2.2 H1) := by
  refine Ct1.start hpX3_endless (Nat.le_of_ble_eq_true rfl) ?_
  intro p e s m below meth c ls hx hb hr S hlk hname hH hK hS hl
  have hl : lv_has ls 3 [(0, .ref (h)), (1, .int (iI (k))), (2, .int (iI (b2i (P))))] := hl
  have hbc : ∀ k : Nat, k < 8 → bRow (cc k) := fun k h => okR_b (hok k h)
  have kw : Keep (fun q => q = h ∨ q = mc) H0 H0 := Keep.rf
  have hz0 := hK.2.2.1
  refine lv_aload_n hx hb dX3_endless_0 rfl (lv_at hl 0 rfl) ?_
  refine lv_iload_n hx hb dX3_endless_1 rfl (lv_at hl 1 rfl) ?_
  refine x_c0S (as := [.int (iI (k))]) (rest := [.ref (h)]) S hK (c_X3_isNoCell l G H0 (k) (by omega) ) q1173 q1174 q43 q1175 hdX3_isNoCell ⟨by decide, by decide⟩ hl.1 rfl rfl (Nat.le_of_ble_eq_true rfl) ⟨Nat.le_of_ble_eq_true rfl, Nat.le_of_ble_eq_true rfl⟩ dX3_endless_2 ?_
  refine xi_iconst hx hb dX3_endless_5 ?_
  have hw_o_1 := hw
  obtain ⟨rb_o_1, hm_o_1, hq_o_1, hr_o_1, hza_o_1, hzc_o_1⟩ := hw_o_1
  refine x_c1V (as := [.int (iI (b2i (¬ (0 ≤ (k) ∧ (k) ≤ 7)))), .int (iI (1))]) (rest := []) S hK hm_o_1 rfl rfl (c_X3_start l G H0 (mc) (th) (ac) (no) (kn) (cc) (h) (¬ (0 ≤ (k) ∧ (k) ≤ 7)) (1) (by omega) (by first | assumption | omega) (by first | assumption | omega) (by first | assumption | omega) (by assumption) (by omega) hw) q1180 q1182 qs9 q43 q1183 hdX3_start ⟨by decide, by decide⟩ hl.1 rfl rfl (Nat.le_of_ble_eq_true rfl) ⟨Nat.le_of_ble_eq_true rfl, Nat.le_of_ble_eq_true rfl⟩ hS (fun q e => Or.inl (Or.inl e)) (fun q z => Or.inr z) dX3_endless_6 (fun rv_c_2 H_c_2 locs hp_c_2 k_c_2 hS => ?_)
  have kw := kw.then k_c_2 (fun q e _ => Or.inl e)
  have hK := hK.keep k_c_2 (fun q e => by have e : q = h := e; omega)
  obtain ⟨th_r_3, hth_r_3, rfl, hw_r_3⟩ := hp_c_2
  refine W.eq (g2 := F0 m 9 ls [.int (iI (b2i (0 < (th_r_3))))]) rfl ?_
  refine xi_ifb_eq (tgt := 14) hx hb dX3_endless_9 (by decide) (fun c_9 => ?_) (fun c_9 => ?_)
  · skip
    obtain rfl : th_r_3 = 0 := by omega
    refine lv_aload_n hx hb dX3_endless_14 rfl (lv_at hl 0 rfl) ?_
    refine lv_iload_n hx hb dX3_endless_15 rfl (lv_at hl 1 rfl) ?_
    refine xi_iconst hx hb dX3_endless_16 ?_
    refine x_newai S hK q1164 (by omega) ⟨Nat.le_of_ble_eq_true rfl, Nat.le_of_ble_eq_true rfl⟩ hS dX3_endless_17 (fun a_n_4 H_n_4 ha_n_4 hq_n_4 k_n_4 hS => ?_)
    have hge_n_4 : H0.size ≤ a_n_4 := by rw [ha_n_4]; exact kw.1
    have sn_n_4_hw_r_3 := hw_r_3
    have kb_n_4 : Keep noW H_c_2 H_c_2 := Keep.rf
    have kw := kw.then k_n_4 (fun q z _ => z.elim)
    have hK := hK.ext k_n_4
    have kb_n_4 := kb_n_4.trans k_n_4
    have hw_r_3 := hw_r_3.ext k_n_4
    have hq_n_4 : IArr G a_n_4 3 (fun _ => 0) H_n_4 := hq_n_4
    refine lv_dup hx hb dX3_endless_19 rfl ?_
    refine xi_iconst hx hb dX3_endless_20 ?_
    refine xi_iconst hx hb dX3_endless_21 ?_
    refine x_iast S hK hq_n_4 (by omega) (by omega) hS (Or.inr (by omega)) dX3_endless_22 (fun H_s_5 locs hq_s_5 k_s_5 hz_s_5 hS => ?_)
    have kw := kw.then k_s_5 (fun q e hlt => by have e : q = a_n_4 := e; exact absurd hlt (by omega))
    have hK := hK.keep k_s_5 (fun q e => by have e : q = a_n_4 := e; omega)
    have kb_n_4 := kb_n_4.then k_s_5 (fun q e hlt => by have e : q = a_n_4 := e; exact absurd hlt (by omega))
    have hw_r_3 := sn_n_4_hw_r_3.ext kb_n_4
    have hq_n_4 : IArr G a_n_4 3 (upd (fun _ => 0) (0 : Int).toNat (iI (1))) H_s_5 := hq_s_5
    refine lv_dup hx hb dX3_endless_23 rfl ?_
    refine xi_iconst hx hb dX3_endless_24 ?_
    refine xi_iconst hx hb dX3_endless_25 ?_
    refine x_iast S hK hq_n_4 (by omega) (by omega) hS (Or.inr (by omega)) dX3_endless_26 (fun H_s_6 locs hq_s_6 k_s_6 hz_s_6 hS => ?_)
    have kw := kw.then k_s_6 (fun q e hlt => by have e : q = a_n_4 := e; exact absurd hlt (by omega))
    have hK := hK.keep k_s_6 (fun q e => by have e : q = a_n_4 := e; omega)
    have kb_n_4 := kb_n_4.then k_s_6 (fun q e hlt => by have e : q = a_n_4 := e; exact absurd hlt (by omega))
    have hw_r_3 := sn_n_4_hw_r_3.ext kb_n_4
    have hq_n_4 : IArr G a_n_4 3 (upd (upd (fun _ => 0) (0 : Int).toNat (iI (1))) (1 : Int).toNat (iI (0))) H_s_6 := hq_s_6
    refine lv_dup hx hb dX3_endless_27 rfl ?_
    refine xi_iconst hx hb dX3_endless_28 ?_
    refine lv_iload_n hx hb dX3_endless_29 rfl (lv_at hl 2 rfl) ?_
    refine x_c0S (as := [.int (iI (b2i (P)))]) (rest := [.int (iI (2)), .ref (a_n_4), .ref (a_n_4), .int (iI (k)), .ref (h)]) S hK (c_X3_one l G H_s_6 (P)  ) q1145 q1146 q43 q1147 hdX3_one ⟨by decide, by decide⟩ hl.1 rfl rfl (Nat.le_of_ble_eq_true rfl) ⟨Nat.le_of_ble_eq_true rfl, Nat.le_of_ble_eq_true rfl⟩ dX3_endless_30 ?_
    refine x_iast S hK hq_n_4 (by omega) (by omega) hS (Or.inr (by omega)) dX3_endless_33 (fun H_s_7 locs hq_s_7 k_s_7 hz_s_7 hS => ?_)
    have kw := kw.then k_s_7 (fun q e hlt => by have e : q = a_n_4 := e; exact absurd hlt (by omega))
    have hK := hK.keep k_s_7 (fun q e => by have e : q = a_n_4 := e; omega)
    have kb_n_4 := kb_n_4.then k_s_7 (fun q e hlt => by have e : q = a_n_4 := e; exact absurd hlt (by omega))
    have hw_r_3 := sn_n_4_hw_r_3.ext kb_n_4
    have hq_n_4 : IArr G a_n_4 3 (upd (upd (upd (fun _ => 0) (0 : Int).toNat (iI (1))) (1 : Int).toNat (iI (0))) (2 : Int).toNat (iI (b2i (P)))) H_s_7 := hq_s_7
    have hq_n_4 : RowAt G a_n_4 (1, 0, b2i (P)) H_s_7 := row_of hq_n_4
    have hw_o_8 := hw_r_3
    obtain ⟨rb_o_8, hm_o_8, hq_o_8, hr_o_8, hza_o_8, hzc_o_8⟩ := hw_o_8
    refine x_c1V (as := [.int (iI (k)), .ref (a_n_4)]) (rest := []) S hK hm_o_8 rfl rfl (c_X3_come l G H_s_7 (mc) (0) (ac) (no) (kn) (cc) ((1, 0, b2i (P))) (h) (k) (a_n_4) (by omega) (by first | assumption | omega) (by first | assumption | omega) (by first | assumption | omega) (by assumption) (by omega) (by first | assumption | exact okR_b (by assumption) | exact bRow_mk (by omega) (by omega) | (apply hbc; omega) | exact bRow_b (by omega) | exact bRow_t (by omega) | omega) hw_r_3 hq_n_4) q1190 q1192 qs11 q43 q1193 hdX3_come ⟨by decide, by decide⟩ hl.1 rfl rfl (Nat.le_of_ble_eq_true rfl) ⟨Nat.le_of_ble_eq_true rfl, Nat.le_of_ble_eq_true rfl⟩ hS (fun q z => Or.inl z) (fun q z => Or.inr z) dX3_endless_34 (fun rv_c_9 H_c_9 locs hp_c_9 k_c_9 hS => ?_)
    have kw := kw.then k_c_9 (fun q e _ => e)
    have hq_n_4 := hq_n_4.keep k_c_9 (fun z => z.elim (Ne.symm (ne_oa hK rfl rfl hm_o_8 hq_n_4)) (ne_len hq_n_4 hq_o_8 (Nat.ne_of_beq_eq_false rfl)))
    have hK := hK.keep k_c_9 (fun q e => by have e : q = h ∨ q = mc := e; omega)
    obtain ⟨rfl, hw_r_10⟩ := hp_c_9
    refine W.eq (g2 := F0 m 37 ls [.int (iI (b2i (¬ alikeR ((cc) (k).toNat) ((1, 0, b2i (P))))))]) rfl ?_
    refine x_ret1i hx hb hr hlk hH hS (by omega) (by omega) ?_ dX3_endless_37
    first | (exfalso; omega) | exact ⟨(_, _, _, _, _), (by unfold op_endless; (repeat (first | with_reducible refine ifp (by omega) ?_ | with_reducible refine ifn (by omega) ?_)); first | rfl | exact comeF_s (by assumption) | exact comeF_n (by assumption) | exact comeF_s (if_pos (by omega)) | exact comeF_n (if_neg (by omega))), rfl, hw_r_10⟩
  · skip
    obtain rfl : th_r_3 = 1 := by omega
    refine xi_iconst hx hb dX3_endless_12 ?_
    refine x_ret1i hx hb hr hlk hH hS (by omega) (by omega) ?_ dX3_endless_13
    first | (exfalso; omega) | exact ⟨(_, _, _, _, _), (by unfold op_endless; (repeat (first | with_reducible refine ifp (by omega) ?_ | with_reducible refine ifn (by omega) ?_)); first | rfl | exact comeF_s (by assumption) | exact comeF_n (by assumption) | exact comeF_s (if_pos (by omega)) | exact comeF_n (if_neg (by omega))), rfl, hw_r_3⟩

theorem hpX3_copy : plainFor yX3_copy = true := by decide +kernel
theorem hdX3_copy : nMH yX3_copy 2 := by decide +kernel
set_option maxHeartbeats 4000000 in
theorem c_X3_copy (l : Launch) (G : GG) (H0 : Heap) (mc : Nat) (th : Int) (ac : Int) (no : Int) (kn : Int) (cc : Nat → Row) (h : Nat) (k : Int) (j : Int) (r_k : -2147483648 ≤ k ∧ k < 2147483648) (r_j : -2147483648 ≤ j ∧ j < 2147483648) (hac : 0 ≤ ac ∧ ac ≤ 1000) (hno : 0 ≤ no ∧ no ≤ 1000) (hkn : 0 ≤ kn ∧ kn ≤ 1000) (hok : ∀ k : Nat, k < 8 → okR (cc k)) (hw : MW G (h) (mc) (th) (ac) (no) (kn) (cc) H0) : Ct1 l G yX3_copy cX3_copy 3 (Option.some Jvm.ClassFile.FieldType.int) 2 0 0 45 [.ref (h), .int (iI (k)), .int (iI (j))] H0 (fun q => q = h ∨ q = mc) (fun (rv : Option Value) (H1 : Heap) => ∃ z : Res, op_copy ac no cc (k) (j) = z ∧ rv = some (.int (iI z.2.1)) ∧ MW G h mc z.1 z.2.2.1 z.2.2.2.1 kn z.2.2.2.2 H1) := by
  refine Ct1.start hpX3_copy (Nat.le_of_ble_eq_true rfl) ?_
  intro p e s m below meth c ls hx hb hr S hlk hname hH hK hS hl
  have hl : lv_has ls 3 [(0, .ref (h)), (1, .int (iI (k))), (2, .int (iI (j)))] := hl
  have hbc : ∀ k : Nat, k < 8 → bRow (cc k) := fun k h => okR_b (hok k h)
  have kw : Keep (fun q => q = h ∨ q = mc) H0 H0 := Keep.rf
  have hz0 := hK.2.2.1
  refine lv_aload_n hx hb dX3_copy_0 rfl (lv_at hl 0 rfl) ?_
  refine lv_iload_n hx hb dX3_copy_1 rfl (lv_at hl 1 rfl) ?_
  refine x_c0S (as := [.int (iI (k))]) (rest := [.ref (h)]) S hK (c_X3_isNoCell l G H0 (k) (by omega) ) q1173 q1174 q43 q1175 hdX3_isNoCell ⟨by decide, by decide⟩ hl.1 rfl rfl (Nat.le_of_ble_eq_true rfl) ⟨Nat.le_of_ble_eq_true rfl, Nat.le_of_ble_eq_true rfl⟩ dX3_copy_2 ?_
  refine xi_ifb_ne (tgt := 15) hx hb dX3_copy_5 (by decide) (fun c_5 => ?_) (fun c_5 => ?_)
  · skip
    refine xi_iconst hx hb dX3_copy_15 ?_
    refine lv_goto (tgt := 20) hx hb dX3_copy_16 (by decide) ?_
    refine xi_iconst hx hb dX3_copy_20 ?_
    have hw_o_1 := hw
    obtain ⟨rb_o_1, hm_o_1, hq_o_1, hr_o_1, hza_o_1, hzc_o_1⟩ := hw_o_1
    refine x_c1V (as := [.int (iI (1)), .int (iI (1))]) (rest := []) S hK hm_o_1 rfl rfl (c_X3_start l G H0 (mc) (th) (ac) (no) (kn) (cc) (h) (True) (1) (by omega) (by first | assumption | omega) (by first | assumption | omega) (by first | assumption | omega) (by assumption) (by omega) hw) q1180 q1182 qs9 q43 q1183 hdX3_start ⟨by decide, by decide⟩ hl.1 rfl rfl (Nat.le_of_ble_eq_true rfl) ⟨Nat.le_of_ble_eq_true rfl, Nat.le_of_ble_eq_true rfl⟩ hS (fun q e => Or.inl (Or.inl e)) (fun q z => Or.inr z) dX3_copy_21 (fun rv_c_2 H_c_2 locs hp_c_2 k_c_2 hS => ?_)
    have kw := kw.then k_c_2 (fun q e _ => Or.inl e)
    have hK := hK.keep k_c_2 (fun q e => by have e : q = h := e; omega)
    obtain ⟨th_r_3, hth_r_3, rfl, hw_r_3⟩ := hp_c_2
    have hth_r_3 := hth_r_3.elim (fun z => z.2) (fun z => absurd trivial z.1)
    refine W.eq (g2 := F0 m 24 ls [.int (iI (b2i (0 < (th_r_3))))]) rfl ?_
    refine xi_ifb_eq (tgt := 29) hx hb dX3_copy_24 (by decide) (fun c_24 => ?_) (fun c_24 => ?_)
    · skip
      obtain rfl : th_r_3 = 0 := by omega
      refine lv_aload_n hx hb dX3_copy_29 rfl (lv_at hl 0 rfl) ?_
      refine lv_iload_n hx hb dX3_copy_30 rfl (lv_at hl 2 rfl) ?_
      refine lv_aload_n hx hb dX3_copy_31 rfl (lv_at hl 0 rfl) ?_
      have hw_o_4 := hw_r_3
      obtain ⟨rb_o_4, hm_o_4, hq_o_4, hr_o_4, hza_o_4, hzc_o_4⟩ := hw_o_4
      refine x_get S hK in_X3 hm_o_4 rfl 4 (by decide) q1152 (fun x h => h) rfl dX3_copy_32 ?_
      refine lv_iload_n hx hb dX3_copy_35 rfl (lv_at hl 1 rfl) ?_
      refine x_aald S hK 3 rfl rfl hq_o_4 (by omega) (by omega) rfl dX3_copy_36 ?_
      have hr_w_5 := hr_o_4 (k).toNat (by omega)
      have hbw_w_5 := hbc (k).toNat (by omega)
      refine x_c1V (as := [.int (iI (j)), .ref ((rb_o_4) ((k).toNat))]) (rest := []) S hK hm_o_4 rfl rfl (c_X3_come l G H_c_2 (mc) (0) (ac) (no) (kn) (cc) (cc (k).toNat) (h) (j) ((rb_o_4) ((k).toNat)) (by omega) (by first | assumption | omega) (by first | assumption | omega) (by first | assumption | omega) (by assumption) (by omega) (by first | assumption | exact okR_b (by assumption) | exact bRow_mk (by omega) (by omega) | (apply hbc; omega) | exact bRow_b (by omega) | exact bRow_t (by omega) | omega) hw_r_3 hr_w_5) q1190 q1192 qs11 q43 q1193 hdX3_come ⟨by decide, by decide⟩ hl.1 rfl rfl (Nat.le_of_ble_eq_true rfl) ⟨Nat.le_of_ble_eq_true rfl, Nat.le_of_ble_eq_true rfl⟩ hS (fun q z => Or.inl z) (fun q z => Or.inr z) dX3_copy_37 (fun rv_c_6 H_c_6 locs hp_c_6 k_c_6 hS => ?_)
      have kw := kw.then k_c_6 (fun q e _ => e)
      have hK := hK.keep k_c_6 (fun q e => by have e : q = h ∨ q = mc := e; omega)
      obtain ⟨rfl, hw_r_7⟩ := hp_c_6
      refine W.eq (g2 := F0 m 40 ls [.int (iI (b2i (¬ alikeR ((cc) (j).toNat) (cc (k).toNat))))]) rfl ?_
      refine x_ret1i hx hb hr hlk hH hS (by omega) (by omega) ?_ dX3_copy_40
      first | (exfalso; omega) | exact ⟨(_, _, _, _, _), (by unfold op_copy; (repeat (first | with_reducible refine ifp (by omega) ?_ | with_reducible refine ifn (by omega) ?_)); first | rfl | exact comeF_s (by assumption) | exact comeF_n (by assumption) | exact comeF_s (if_pos (by omega)) | exact comeF_n (if_neg (by omega))), rfl, hw_r_7⟩
    · skip
      obtain rfl : th_r_3 = 1 := by omega
      refine xi_iconst hx hb dX3_copy_27 ?_
      refine x_ret1i hx hb hr hlk hH hS (by omega) (by omega) ?_ dX3_copy_28
      first | (exfalso; omega) | exact ⟨(_, _, _, _, _), (by unfold op_copy; (repeat (first | with_reducible refine ifp (by omega) ?_ | with_reducible refine ifn (by omega) ?_)); first | rfl | exact comeF_s (by assumption) | exact comeF_n (by assumption) | exact comeF_s (if_pos (by omega)) | exact comeF_n (if_neg (by omega))), rfl, hw_r_3⟩
  · skip
    refine lv_iload_n hx hb dX3_copy_8 rfl (lv_at hl 2 rfl) ?_
    refine x_c0S (as := [.int (iI (j))]) (rest := [.ref (h)]) S hK (c_X3_isNoCell l G H0 (j) (by omega) ) q1173 q1174 q43 q1175 hdX3_isNoCell ⟨by decide, by decide⟩ hl.1 rfl rfl (Nat.le_of_ble_eq_true rfl) ⟨Nat.le_of_ble_eq_true rfl, Nat.le_of_ble_eq_true rfl⟩ dX3_copy_9 ?_
    refine xi_ifb_eq (tgt := 19) hx hb dX3_copy_12 (by decide) (fun c_12 => ?_) (fun c_12 => ?_)
    · skip
      refine xi_iconst hx hb dX3_copy_19 ?_
      refine xi_iconst hx hb dX3_copy_20 ?_
      have hw_o_8 := hw
      obtain ⟨rb_o_8, hm_o_8, hq_o_8, hr_o_8, hza_o_8, hzc_o_8⟩ := hw_o_8
      refine x_c1V (as := [.int (iI (0)), .int (iI (1))]) (rest := []) S hK hm_o_8 rfl rfl (c_X3_start l G H0 (mc) (th) (ac) (no) (kn) (cc) (h) (False) (1) (by omega) (by first | assumption | omega) (by first | assumption | omega) (by first | assumption | omega) (by assumption) (by omega) hw) q1180 q1182 qs9 q43 q1183 hdX3_start ⟨by decide, by decide⟩ hl.1 rfl rfl (Nat.le_of_ble_eq_true rfl) ⟨Nat.le_of_ble_eq_true rfl, Nat.le_of_ble_eq_true rfl⟩ hS (fun q e => Or.inl (Or.inl e)) (fun q z => Or.inr z) dX3_copy_21 (fun rv_c_9 H_c_9 locs hp_c_9 k_c_9 hS => ?_)
      have kw := kw.then k_c_9 (fun q e _ => Or.inl e)
      have hK := hK.keep k_c_9 (fun q e => by have e : q = h := e; omega)
      obtain ⟨th_r_10, hth_r_10, rfl, hw_r_10⟩ := hp_c_9
      have hth_r_10 := hth_r_10.elim (fun z => z.1.elim) (fun z => z.2)
      refine W.eq (g2 := F0 m 24 ls [.int (iI (b2i (0 < (th_r_10))))]) rfl ?_
      refine xi_ifb_eq (tgt := 29) hx hb dX3_copy_24 (by decide) (fun c_24 => ?_) (fun c_24 => ?_)
      · skip
        obtain rfl : th_r_10 = 0 := by omega
        refine lv_aload_n hx hb dX3_copy_29 rfl (lv_at hl 0 rfl) ?_
        refine lv_iload_n hx hb dX3_copy_30 rfl (lv_at hl 2 rfl) ?_
        refine lv_aload_n hx hb dX3_copy_31 rfl (lv_at hl 0 rfl) ?_
        have hw_o_11 := hw_r_10
        obtain ⟨rb_o_11, hm_o_11, hq_o_11, hr_o_11, hza_o_11, hzc_o_11⟩ := hw_o_11
        refine x_get S hK in_X3 hm_o_11 rfl 4 (by decide) q1152 (fun x h => h) rfl dX3_copy_32 ?_
        refine lv_iload_n hx hb dX3_copy_35 rfl (lv_at hl 1 rfl) ?_
        refine x_aald S hK 3 rfl rfl hq_o_11 (by omega) (by omega) rfl dX3_copy_36 ?_
        have hr_w_12 := hr_o_11 (k).toNat (by omega)
        have hbw_w_12 := hbc (k).toNat (by omega)
        refine x_c1V (as := [.int (iI (j)), .ref ((rb_o_11) ((k).toNat))]) (rest := []) S hK hm_o_11 rfl rfl (c_X3_come l G H_c_9 (mc) (0) (ac) (no) (kn) (cc) (cc (k).toNat) (h) (j) ((rb_o_11) ((k).toNat)) (by omega) (by first | assumption | omega) (by first | assumption | omega) (by first | assumption | omega) (by assumption) (by omega) (by first | assumption | exact okR_b (by assumption) | exact bRow_mk (by omega) (by omega) | (apply hbc; omega) | exact bRow_b (by omega) | exact bRow_t (by omega) | omega) hw_r_10 hr_w_12) q1190 q1192 qs11 q43 q1193 hdX3_come ⟨by decide, by decide⟩ hl.1 rfl rfl (Nat.le_of_ble_eq_true rfl) ⟨Nat.le_of_ble_eq_true rfl, Nat.le_of_ble_eq_true rfl⟩ hS (fun q z => Or.inl z) (fun q z => Or.inr z) dX3_copy_37 (fun rv_c_13 H_c_13 locs hp_c_13 k_c_13 hS => ?_)
        have kw := kw.then k_c_13 (fun q e _ => e)
        have hK := hK.keep k_c_13 (fun q e => by have e : q = h ∨ q = mc := e; omega)
        obtain ⟨rfl, hw_r_14⟩ := hp_c_13
        refine W.eq (g2 := F0 m 40 ls [.int (iI (b2i (¬ alikeR ((cc) (j).toNat) (cc (k).toNat))))]) rfl ?_
        refine x_ret1i hx hb hr hlk hH hS (by omega) (by omega) ?_ dX3_copy_40
        first | (exfalso; omega) | exact ⟨(_, _, _, _, _), (by unfold op_copy; (repeat (first | with_reducible refine ifp (by omega) ?_ | with_reducible refine ifn (by omega) ?_)); first | rfl | exact comeF_s (by assumption) | exact comeF_n (by assumption) | exact comeF_s (if_pos (by omega)) | exact comeF_n (if_neg (by omega))), rfl, hw_r_14⟩
      · skip
        obtain rfl : th_r_10 = 1 := by omega
        refine xi_iconst hx hb dX3_copy_27 ?_
        refine x_ret1i hx hb hr hlk hH hS (by omega) (by omega) ?_ dX3_copy_28
        first | (exfalso; omega) | exact ⟨(_, _, _, _, _), (by unfold op_copy; (repeat (first | with_reducible refine ifp (by omega) ?_ | with_reducible refine ifn (by omega) ?_)); first | rfl | exact comeF_s (by assumption) | exact comeF_n (by assumption) | exact comeF_s (if_pos (by omega)) | exact comeF_n (if_neg (by omega))), rfl, hw_r_10⟩
    · skip
      refine xi_iconst hx hb dX3_copy_15 ?_
      refine lv_goto (tgt := 20) hx hb dX3_copy_16 (by decide) ?_
      refine xi_iconst hx hb dX3_copy_20 ?_
      have hw_o_15 := hw
      obtain ⟨rb_o_15, hm_o_15, hq_o_15, hr_o_15, hza_o_15, hzc_o_15⟩ := hw_o_15
      refine x_c1V (as := [.int (iI (1)), .int (iI (1))]) (rest := []) S hK hm_o_15 rfl rfl (c_X3_start l G H0 (mc) (th) (ac) (no) (kn) (cc) (h) (True) (1) (by omega) (by first | assumption | omega) (by first | assumption | omega) (by first | assumption | omega) (by assumption) (by omega) hw) q1180 q1182 qs9 q43 q1183 hdX3_start ⟨by decide, by decide⟩ hl.1 rfl rfl (Nat.le_of_ble_eq_true rfl) ⟨Nat.le_of_ble_eq_true rfl, Nat.le_of_ble_eq_true rfl⟩ hS (fun q e => Or.inl (Or.inl e)) (fun q z => Or.inr z) dX3_copy_21 (fun rv_c_16 H_c_16 locs hp_c_16 k_c_16 hS => ?_)
      have kw := kw.then k_c_16 (fun q e _ => Or.inl e)
      have hK := hK.keep k_c_16 (fun q e => by have e : q = h := e; omega)
      obtain ⟨th_r_17, hth_r_17, rfl, hw_r_17⟩ := hp_c_16
      have hth_r_17 := hth_r_17.elim (fun z => z.2) (fun z => absurd trivial z.1)
      refine W.eq (g2 := F0 m 24 ls [.int (iI (b2i (0 < (th_r_17))))]) rfl ?_
      refine xi_ifb_eq (tgt := 29) hx hb dX3_copy_24 (by decide) (fun c_24 => ?_) (fun c_24 => ?_)
      · skip
        obtain rfl : th_r_17 = 0 := by omega
        refine lv_aload_n hx hb dX3_copy_29 rfl (lv_at hl 0 rfl) ?_
        refine lv_iload_n hx hb dX3_copy_30 rfl (lv_at hl 2 rfl) ?_
        refine lv_aload_n hx hb dX3_copy_31 rfl (lv_at hl 0 rfl) ?_
        have hw_o_18 := hw_r_17
        obtain ⟨rb_o_18, hm_o_18, hq_o_18, hr_o_18, hza_o_18, hzc_o_18⟩ := hw_o_18
        refine x_get S hK in_X3 hm_o_18 rfl 4 (by decide) q1152 (fun x h => h) rfl dX3_copy_32 ?_
        refine lv_iload_n hx hb dX3_copy_35 rfl (lv_at hl 1 rfl) ?_
        refine x_aald S hK 3 rfl rfl hq_o_18 (by omega) (by omega) rfl dX3_copy_36 ?_
        have hr_w_19 := hr_o_18 (k).toNat (by omega)
        have hbw_w_19 := hbc (k).toNat (by omega)
        refine x_c1V (as := [.int (iI (j)), .ref ((rb_o_18) ((k).toNat))]) (rest := []) S hK hm_o_18 rfl rfl (c_X3_come l G H_c_16 (mc) (0) (ac) (no) (kn) (cc) (cc (k).toNat) (h) (j) ((rb_o_18) ((k).toNat)) (by omega) (by first | assumption | omega) (by first | assumption | omega) (by first | assumption | omega) (by assumption) (by omega) (by first | assumption | exact okR_b (by assumption) | exact bRow_mk (by omega) (by omega) | (apply hbc; omega) | exact bRow_b (by omega) | exact bRow_t (by omega) | omega) hw_r_17 hr_w_19) q1190 q1192 qs11 q43 q1193 hdX3_come ⟨by decide, by decide⟩ hl.1 rfl rfl (Nat.le_of_ble_eq_true rfl) ⟨Nat.le_of_ble_eq_true rfl, Nat.le_of_ble_eq_true rfl⟩ hS (fun q z => Or.inl z) (fun q z => Or.inr z) dX3_copy_37 (fun rv_c_20 H_c_20 locs hp_c_20 k_c_20 hS => ?_)
        have kw := kw.then k_c_20 (fun q e _ => e)
        have hK := hK.keep k_c_20 (fun q e => by have e : q = h ∨ q = mc := e; omega)
        obtain ⟨rfl, hw_r_21⟩ := hp_c_20
        refine W.eq (g2 := F0 m 40 ls [.int (iI (b2i (¬ alikeR ((cc) (j).toNat) (cc (k).toNat))))]) rfl ?_
        refine x_ret1i hx hb hr hlk hH hS (by omega) (by omega) ?_ dX3_copy_40
        first | (exfalso; omega) | exact ⟨(_, _, _, _, _), (by unfold op_copy; (repeat (first | with_reducible refine ifp (by omega) ?_ | with_reducible refine ifn (by omega) ?_)); first | rfl | exact comeF_s (by assumption) | exact comeF_n (by assumption) | exact comeF_s (if_pos (by omega)) | exact comeF_n (if_neg (by omega))), rfl, hw_r_21⟩
      · skip
        obtain rfl : th_r_17 = 1 := by omega
        refine xi_iconst hx hb dX3_copy_27 ?_
        refine x_ret1i hx hb hr hlk hH hS (by omega) (by omega) ?_ dX3_copy_28
        first | (exfalso; omega) | exact ⟨(_, _, _, _, _), (by unfold op_copy; (repeat (first | with_reducible refine ifp (by omega) ?_ | with_reducible refine ifn (by omega) ?_)); first | rfl | exact comeF_s (by assumption) | exact comeF_n (by assumption) | exact comeF_s (if_pos (by omega)) | exact comeF_n (if_neg (by omega))), rfl, hw_r_17⟩

theorem hpX3_step : plainFor yX3_step = true := by decide +kernel
theorem hdX3_step : nMH yX3_step 2 := by decide +kernel
set_option maxHeartbeats 4000000 in
theorem c_X3_step (l : Launch) (G : GG) (H0 : Heap) (mc : Nat) (th : Int) (ac : Int) (no : Int) (kn : Int) (cc : Nat → Row) (h : Nat) (k : Int) (t : Int) (r_k : -2147483648 ≤ k ∧ k < 2147483648) (r_t : -2147483648 ≤ t ∧ t < 2147483648) (hac : 0 ≤ ac ∧ ac ≤ 1000) (hno : 0 ≤ no ∧ no ≤ 1000) (hkn : 0 ≤ kn ∧ kn ≤ 1000) (hok : ∀ k : Nat, k < 8 → okR (cc k)) (hw : MW G (h) (mc) (th) (ac) (no) (kn) (cc) H0) : Ct1 l G yX3_step cX3_step 4 (Option.some Jvm.ClassFile.FieldType.int) 3 1 3 61 [.ref (h), .int (iI (k)), .int (iI (t))] H0 (fun q => q = h ∨ q = mc) (fun (rv : Option Value) (H1 : Heap) => ∃ z : Res, op_step ac no cc (k) (t) = z ∧ rv = some (.int (iI z.2.1)) ∧ MW G h mc z.1 z.2.2.1 z.2.2.2.1 kn z.2.2.2.2 H1) := by
  refine Ct1.start hpX3_step (Nat.le_of_ble_eq_true rfl) ?_
  intro p e s m below meth c ls hx hb hr S hlk hname hH hK hS hl
  have hl : lv_has ls 4 [(0, .ref (h)), (1, .int (iI (k))), (2, .int (iI (t)))] := hl
  have hbc : ∀ k : Nat, k < 8 → bRow (cc k) := fun k h => okR_b (hok k h)
  have kw : Keep (fun q => q = h ∨ q = mc) H0 H0 := Keep.rf
  have hz0 := hK.2.2.1
  refine lv_aload_n hx hb dX3_step_0 rfl (lv_at hl 0 rfl) ?_
  refine lv_iload_n hx hb dX3_step_1 rfl (lv_at hl 1 rfl) ?_
  refine x_c0S (as := [.int (iI (k))]) (rest := [.ref (h)]) S hK (c_X3_isNoCell l G H0 (k) (by omega) ) q1173 q1174 q43 q1175 hdX3_isNoCell ⟨by decide, by decide⟩ hl.1 rfl rfl (Nat.le_of_ble_eq_true rfl) ⟨Nat.le_of_ble_eq_true rfl, Nat.le_of_ble_eq_true rfl⟩ dX3_step_2 ?_
  refine xi_iconst hx hb dX3_step_5 ?_
  have hw_o_1 := hw
  obtain ⟨rb_o_1, hm_o_1, hq_o_1, hr_o_1, hza_o_1, hzc_o_1⟩ := hw_o_1
  refine x_c1V (as := [.int (iI (b2i (¬ (0 ≤ (k) ∧ (k) ≤ 7)))), .int (iI (1))]) (rest := []) S hK hm_o_1 rfl rfl (c_X3_start l G H0 (mc) (th) (ac) (no) (kn) (cc) (h) (¬ (0 ≤ (k) ∧ (k) ≤ 7)) (1) (by omega) (by first | assumption | omega) (by first | assumption | omega) (by first | assumption | omega) (by assumption) (by omega) hw) q1180 q1182 qs9 q43 q1183 hdX3_start ⟨by decide, by decide⟩ hl.1 rfl rfl (Nat.le_of_ble_eq_true rfl) ⟨Nat.le_of_ble_eq_true rfl, Nat.le_of_ble_eq_true rfl⟩ hS (fun q e => Or.inl (Or.inl e)) (fun q z => Or.inr z) dX3_step_6 (fun rv_c_2 H_c_2 locs hp_c_2 k_c_2 hS => ?_)
  have kw := kw.then k_c_2 (fun q e _ => Or.inl e)
  have hK := hK.keep k_c_2 (fun q e => by have e : q = h := e; omega)
  obtain ⟨th_r_3, hth_r_3, rfl, hw_r_3⟩ := hp_c_2
  refine W.eq (g2 := F0 m 9 ls [.int (iI (b2i (0 < (th_r_3))))]) rfl ?_
  refine xi_ifb_ne (tgt := 39) hx hb dX3_step_9 (by decide) (fun c_9 => ?_) (fun c_9 => ?_)
  · skip
    obtain rfl : th_r_3 = 1 := by omega
    refine xi_iconst hx hb dX3_step_39 ?_
    refine x_ret1i hx hb hr hlk hH hS (by omega) (by omega) ?_ dX3_step_40
    first | (exfalso; omega) | exact ⟨(_, _, _, _, _), (by unfold op_step; (repeat (first | with_reducible refine ifp (by omega) ?_ | with_reducible refine ifn (by omega) ?_)); first | rfl | exact comeF_s (by assumption) | exact comeF_n (by assumption) | exact comeF_s (if_pos (by omega)) | exact comeF_n (if_neg (by omega))), rfl, hw_r_3⟩
  · skip
    obtain rfl : th_r_3 = 0 := by omega
    refine lv_aload_n hx hb dX3_step_12 rfl (lv_at hl 0 rfl) ?_
    refine lv_iload_n hx hb dX3_step_13 rfl (lv_at hl 2 rfl) ?_
    refine xi_i2l hx hb (by omega) dX3_step_14 ?_
    refine xi_ldc2 (z := -65535) hx hb S.2.2.2.1 S.2.2.2.2 q1188 (by decide +kernel) dX3_step_15 ?_
    refine xi_ldc2 (z := 65535) hx hb S.2.2.2.1 S.2.2.2.2 q1189 (by decide +kernel) dX3_step_18 ?_
    refine x_c0S (as := [.long (jI (t)), .long (jI (-65535)), .long (jI (65535))]) (rest := [.ref (h)]) S hK (c_X3_isIn l G H_c_2 (t) (-65535) (65535) (by omega) (by omega) (by omega) ) q1177 q1178 q43 q1179 hdX3_isIn ⟨by decide, by decide⟩ hl.1 rfl rfl (Nat.le_of_ble_eq_true rfl) ⟨Nat.le_of_ble_eq_true rfl, Nat.le_of_ble_eq_true rfl⟩ dX3_step_21 ?_
    refine xi_ifb_ne (tgt := 31) hx hb dX3_step_24 (by decide) (fun c_24 => ?_) (fun c_24 => ?_)
    · skip
      refine xi_iconst hx hb dX3_step_31 ?_
      refine xi_iconst hx hb dX3_step_32 ?_
      have hw_o_4 := hw_r_3
      obtain ⟨rb_o_4, hm_o_4, hq_o_4, hr_o_4, hza_o_4, hzc_o_4⟩ := hw_o_4
      refine x_c1V (as := [.int (iI (0)), .int (iI (2))]) (rest := []) S hK hm_o_4 rfl rfl (c_X3_refuse l G H_c_2 (mc) (0) (ac) (no) (kn) (cc) (h) (False) (2) (by omega) (by first | assumption | omega) (by first | assumption | omega) (by first | assumption | omega) (by assumption) (by omega) (by omega) hw_r_3) q1184 q1186 qs10 q43 q1187 hdX3_refuse ⟨by decide, by decide⟩ hl.1 rfl rfl (Nat.le_of_ble_eq_true rfl) ⟨Nat.le_of_ble_eq_true rfl, Nat.le_of_ble_eq_true rfl⟩ hS (fun q e => Or.inl (Or.inl e)) (fun q z => Or.inr z) dX3_step_33 (fun rv_c_5 H_c_5 locs hp_c_5 k_c_5 hS => ?_)
      have kw := kw.then k_c_5 (fun q e _ => Or.inl e)
      have hK := hK.keep k_c_5 (fun q e => by have e : q = h := e; omega)
      obtain ⟨th_r_6, hth_r_6, rfl, hw_r_6⟩ := hp_c_5
      have hth_r_6 := hth_r_6.elim (fun z => z.1.1.elim) (fun z => z.2)
      refine W.eq (g2 := F0 m 36 ls [.int (iI (b2i (0 < (th_r_6))))]) rfl ?_
      refine xi_ifb_eq (tgt := 41) hx hb dX3_step_36 (by decide) (fun c_36 => ?_) (fun c_36 => ?_)
      · skip
        obtain rfl : th_r_6 = 0 := by omega
        refine lv_aload_n hx hb dX3_step_41 rfl (lv_at hl 0 rfl) ?_
        have hw_o_7 := hw_r_6
        obtain ⟨rb_o_7, hm_o_7, hq_o_7, hr_o_7, hza_o_7, hzc_o_7⟩ := hw_o_7
        refine x_get S hK in_X3 hm_o_7 rfl 4 (by decide) q1152 (fun x h => h) rfl dX3_step_42 ?_
        refine lv_iload_n hx hb dX3_step_45 rfl (lv_at hl 1 rfl) ?_
        refine x_aald S hK 3 rfl rfl hq_o_7 (by omega) (by omega) rfl dX3_step_46 ?_
        have hr_w_8 := hr_o_7 (k).toNat (by omega)
        have hbw_w_8 := hbc (k).toNat (by omega)
        refine xi_iconst hx hb dX3_step_47 ?_
        refine x_iald (w := (cc (k).toNat).1) S hK hr_w_8 (by omega) (by decide) rfl dX3_step_48 ?_
        refine xi_if_ne (tgt := 73) hx hb dX3_step_49 (by decide) (by omega) (fun c_49 => ?_) (fun c_49 => ?_)
        · skip
          refine xi_iconst hx hb dX3_step_73 ?_
          refine lv_istore_n (lv' := [(3, .int (iI (0))), (0, .ref (h)), (1, .int (iI (k))), (2, .int (iI (t)))]) hx hb dX3_step_74 rfl hl (by decide) rfl (fun ls hl => ?_)
          refine lv_aload_n hx hb dX3_step_75 rfl (lv_at hl 1 rfl) ?_
          refine lv_iload_n hx hb dX3_step_76 rfl (lv_at hl 2 rfl) ?_
          refine lv_iload_n hx hb dX3_step_77 rfl (lv_at hl 0 rfl) ?_
          refine xi_if_eq (tgt := 97) hx hb dX3_step_78 (by decide) (by omega) (fun c_78 => ?_) (fun c_78 => ?_)
          · skip
            refine lv_null hx hb dX3_step_97 ?_
            refine x_c1V (as := [.int (iI (k)), .null]) (rest := []) S hK hm_o_7 rfl rfl (c_X3_comeN l G H_c_5 (mc) (0) (ac) (no) (kn) (cc) (h) (k) (by omega) (by first | assumption | omega) (by first | assumption | omega) (by first | assumption | omega) (by assumption) hw_r_6) q1190 q1192 qs11 q43 q1193 hdX3_come ⟨by decide, by decide⟩ hl.1 rfl rfl (Nat.le_of_ble_eq_true rfl) ⟨Nat.le_of_ble_eq_true rfl, Nat.le_of_ble_eq_true rfl⟩ hS (fun q z => Or.inl z) (fun q z => Or.inr z) dX3_step_98 (fun rv_c_9 H_c_9 locs hp_c_9 k_c_9 hS => ?_)
            have kw := kw.then k_c_9 (fun q e _ => e)
            have hK := hK.keep k_c_9 (fun q e => by have e : q = h ∨ q = mc := e; omega)
            obtain ⟨rfl, hw_r_10⟩ := hp_c_9
            refine W.eq (g2 := F0 m 101 ls [.int (iI (-9))]) rfl ?_
            refine x_ret1i hx hb hr hlk hH hS (by omega) (by omega) ?_ dX3_step_101
            first | (exfalso; omega) | exact ⟨(_, _, _, _, _), (by unfold op_step; (repeat (first | with_reducible refine ifp (by omega) ?_ | with_reducible refine ifn (by omega) ?_)); first | rfl | exact comeF_s (by assumption) | exact comeF_n (by assumption) | exact comeF_s (if_pos (by omega)) | exact comeF_n (if_neg (by omega))), rfl, hw_r_10⟩
          · skip
            refine lv_aload_n hx hb dX3_step_81 rfl (lv_at hl 1 rfl) ?_
            refine x_get S hK in_X3 hm_o_7 rfl 4 (by decide) q1152 (fun x h => h) rfl dX3_step_82 ?_
            refine lv_iload_n hx hb dX3_step_85 rfl (lv_at hl 2 rfl) ?_
            refine x_aald S hK 3 rfl rfl hq_o_7 (by omega) (by omega) rfl dX3_step_86 ?_
            refine xi_iconst hx hb dX3_step_87 ?_
            refine x_iald (w := (cc (k).toNat).2.1) S hK hr_w_8 (by omega) (by decide) rfl dX3_step_88 ?_
            refine lv_iload_n hx hb dX3_step_89 rfl (lv_at hl 3 rfl) ?_
            refine xi_iadd hx hb dX3_step_90 ?_
            refine x_c1S (as := [.int (iI (((cc (k).toNat).2.1) + (t)))]) (rest := [.int (iI (k)), .ref (h)]) S hK (c_X3_exact l G H_c_5 (((cc (k).toNat).2.1) + (t)) (by omega) ) q1139 q1140 q43 q1141 hdX3_exact ⟨by decide, by decide⟩ hl.1 rfl rfl (Nat.le_of_ble_eq_true rfl) ⟨Nat.le_of_ble_eq_true rfl, Nat.le_of_ble_eq_true rfl⟩ hS (fun _ z => z.elim) (fun q z => Or.inr z) dX3_step_91 (fun rv_c_11 H_c_11 locs hp_c_11 k_c_11 hS => ?_)
            have kw := kw.then k_c_11 (fun q z _ => z.elim)
            have hK := hK.ext k_c_11
            have hw_r_6 := hw_r_6.ext k_c_11
            have hm_o_7 := hm_o_7.ext k_c_11
            have hq_o_7 := hq_o_7.ext k_c_11
            have hr_o_7 := hr_o_7.ext k_c_11
            have hr_w_8 := hr_w_8.ext k_c_11
            obtain ⟨a_r_12, rfl, hq_r_12⟩ := hp_c_11
            refine W.eq (g2 := F0 m 94 ls [.ref (a_r_12), .int (iI (k)), .ref (h)]) rfl ?_
            refine lv_goto (tgt := 98) hx hb dX3_step_94 (by decide) ?_
            refine x_c1V (as := [.int (iI (k)), .ref (a_r_12)]) (rest := []) S hK hm_o_7 rfl rfl (c_X3_come l G H_c_11 (mc) (0) (ac) (no) (kn) (cc) (mk 0 ((((cc (k).toNat).2.1) + (t)))) (h) (k) (a_r_12) (by omega) (by first | assumption | omega) (by first | assumption | omega) (by first | assumption | omega) (by assumption) (by omega) (by first | assumption | exact okR_b (by assumption) | exact bRow_mk (by omega) (by omega) | (apply hbc; omega) | exact bRow_b (by omega) | exact bRow_t (by omega) | omega) hw_r_6 hq_r_12) q1190 q1192 qs11 q43 q1193 hdX3_come ⟨by decide, by decide⟩ hl.1 rfl rfl (Nat.le_of_ble_eq_true rfl) ⟨Nat.le_of_ble_eq_true rfl, Nat.le_of_ble_eq_true rfl⟩ hS (fun q z => Or.inl z) (fun q z => Or.inr z) dX3_step_98 (fun rv_c_13 H_c_13 locs hp_c_13 k_c_13 hS => ?_)
            have kw := kw.then k_c_13 (fun q e _ => e)
            have hq_r_12 := hq_r_12.keep k_c_13 (fun z => z.elim (Ne.symm (ne_oa hK rfl rfl hm_o_7 hq_r_12)) (ne_len hq_r_12 hq_o_7 (Nat.ne_of_beq_eq_false rfl)))
            have hK := hK.keep k_c_13 (fun q e => by have e : q = h ∨ q = mc := e; omega)
            obtain ⟨rfl, hw_r_14⟩ := hp_c_13
            refine W.eq (g2 := F0 m 101 ls [.int (iI (b2i (¬ alikeR ((cc) (k).toNat) (mk 0 ((((cc (k).toNat).2.1) + (t)))))))]) rfl ?_
            refine x_ret1i hx hb hr hlk hH hS (by omega) (by omega) ?_ dX3_step_101
            first | (exfalso; omega) | exact ⟨(_, _, _, _, _), (by unfold op_step; (repeat (first | with_reducible refine ifp (by omega) ?_ | with_reducible refine ifn (by omega) ?_)); first | rfl | exact comeF_s (by assumption) | exact comeF_n (by assumption) | exact comeF_s (if_pos (by omega)) | exact comeF_n (if_neg (by omega))), rfl, hw_r_14⟩
        · skip
          refine lv_aload_n hx hb dX3_step_52 rfl (lv_at hl 0 rfl) ?_
          refine x_get S hK in_X3 hm_o_7 rfl 4 (by decide) q1152 (fun x h => h) rfl dX3_step_53 ?_
          refine lv_iload_n hx hb dX3_step_56 rfl (lv_at hl 1 rfl) ?_
          refine x_aald S hK 3 rfl rfl hq_o_7 (by omega) (by omega) rfl dX3_step_57 ?_
          refine xi_iconst hx hb dX3_step_58 ?_
          refine x_iald (w := (cc (k).toNat).2.1) S hK hr_w_8 (by omega) (by decide) rfl dX3_step_59 ?_
          refine lv_iload_n hx hb dX3_step_60 rfl (lv_at hl 2 rfl) ?_
          refine xi_iadd hx hb dX3_step_61 ?_
          refine xi_i2l hx hb (by omega) dX3_step_62 ?_
          refine x_c0S (as := [.long (jI (((cc (k).toNat).2.1) + (t)))]) (rest := []) S hK (c_X3_isOfSet l G H_c_5 (((cc (k).toNat).2.1) + (t)) (by omega) ) q1227 q1228 q43 q1229 hdX3_isOfSet ⟨by decide, by decide⟩ hl.1 rfl rfl (Nat.le_of_ble_eq_true rfl) ⟨Nat.le_of_ble_eq_true rfl, Nat.le_of_ble_eq_true rfl⟩ dX3_step_63 ?_
          refine xi_ifb_eq (tgt := 73) hx hb dX3_step_66 (by decide) (fun c_66 => ?_) (fun c_66 => ?_)
          · skip
            refine xi_iconst hx hb dX3_step_73 ?_
            refine lv_istore_n (lv' := [(3, .int (iI (0))), (0, .ref (h)), (1, .int (iI (k))), (2, .int (iI (t)))]) hx hb dX3_step_74 rfl hl (by decide) rfl (fun ls hl => ?_)
            refine lv_aload_n hx hb dX3_step_75 rfl (lv_at hl 1 rfl) ?_
            refine lv_iload_n hx hb dX3_step_76 rfl (lv_at hl 2 rfl) ?_
            refine lv_iload_n hx hb dX3_step_77 rfl (lv_at hl 0 rfl) ?_
            refine xi_if_eq (tgt := 97) hx hb dX3_step_78 (by decide) (by omega) (fun c_78 => ?_) (fun c_78 => ?_)
            · skip
              refine lv_null hx hb dX3_step_97 ?_
              refine x_c1V (as := [.int (iI (k)), .null]) (rest := []) S hK hm_o_7 rfl rfl (c_X3_comeN l G H_c_5 (mc) (0) (ac) (no) (kn) (cc) (h) (k) (by omega) (by first | assumption | omega) (by first | assumption | omega) (by first | assumption | omega) (by assumption) hw_r_6) q1190 q1192 qs11 q43 q1193 hdX3_come ⟨by decide, by decide⟩ hl.1 rfl rfl (Nat.le_of_ble_eq_true rfl) ⟨Nat.le_of_ble_eq_true rfl, Nat.le_of_ble_eq_true rfl⟩ hS (fun q z => Or.inl z) (fun q z => Or.inr z) dX3_step_98 (fun rv_c_15 H_c_15 locs hp_c_15 k_c_15 hS => ?_)
              have kw := kw.then k_c_15 (fun q e _ => e)
              have hK := hK.keep k_c_15 (fun q e => by have e : q = h ∨ q = mc := e; omega)
              obtain ⟨rfl, hw_r_16⟩ := hp_c_15
              refine W.eq (g2 := F0 m 101 ls [.int (iI (-9))]) rfl ?_
              refine x_ret1i hx hb hr hlk hH hS (by omega) (by omega) ?_ dX3_step_101
              first | (exfalso; omega) | exact ⟨(_, _, _, _, _), (by unfold op_step; (repeat (first | with_reducible refine ifp (by omega) ?_ | with_reducible refine ifn (by omega) ?_)); first | rfl | exact comeF_s (by assumption) | exact comeF_n (by assumption) | exact comeF_s (if_pos (by omega)) | exact comeF_n (if_neg (by omega))), rfl, hw_r_16⟩
            · skip
              refine lv_aload_n hx hb dX3_step_81 rfl (lv_at hl 1 rfl) ?_
              refine x_get S hK in_X3 hm_o_7 rfl 4 (by decide) q1152 (fun x h => h) rfl dX3_step_82 ?_
              refine lv_iload_n hx hb dX3_step_85 rfl (lv_at hl 2 rfl) ?_
              refine x_aald S hK 3 rfl rfl hq_o_7 (by omega) (by omega) rfl dX3_step_86 ?_
              refine xi_iconst hx hb dX3_step_87 ?_
              refine x_iald (w := (cc (k).toNat).2.1) S hK hr_w_8 (by omega) (by decide) rfl dX3_step_88 ?_
              refine lv_iload_n hx hb dX3_step_89 rfl (lv_at hl 3 rfl) ?_
              refine xi_iadd hx hb dX3_step_90 ?_
              refine x_c1S (as := [.int (iI (((cc (k).toNat).2.1) + (t)))]) (rest := [.int (iI (k)), .ref (h)]) S hK (c_X3_exact l G H_c_5 (((cc (k).toNat).2.1) + (t)) (by omega) ) q1139 q1140 q43 q1141 hdX3_exact ⟨by decide, by decide⟩ hl.1 rfl rfl (Nat.le_of_ble_eq_true rfl) ⟨Nat.le_of_ble_eq_true rfl, Nat.le_of_ble_eq_true rfl⟩ hS (fun _ z => z.elim) (fun q z => Or.inr z) dX3_step_91 (fun rv_c_17 H_c_17 locs hp_c_17 k_c_17 hS => ?_)
              have kw := kw.then k_c_17 (fun q z _ => z.elim)
              have hK := hK.ext k_c_17
              have hw_r_6 := hw_r_6.ext k_c_17
              have hm_o_7 := hm_o_7.ext k_c_17
              have hq_o_7 := hq_o_7.ext k_c_17
              have hr_o_7 := hr_o_7.ext k_c_17
              have hr_w_8 := hr_w_8.ext k_c_17
              obtain ⟨a_r_18, rfl, hq_r_18⟩ := hp_c_17
              refine W.eq (g2 := F0 m 94 ls [.ref (a_r_18), .int (iI (k)), .ref (h)]) rfl ?_
              refine lv_goto (tgt := 98) hx hb dX3_step_94 (by decide) ?_
              refine x_c1V (as := [.int (iI (k)), .ref (a_r_18)]) (rest := []) S hK hm_o_7 rfl rfl (c_X3_come l G H_c_17 (mc) (0) (ac) (no) (kn) (cc) (mk 0 ((((cc (k).toNat).2.1) + (t)))) (h) (k) (a_r_18) (by omega) (by first | assumption | omega) (by first | assumption | omega) (by first | assumption | omega) (by assumption) (by omega) (by first | assumption | exact okR_b (by assumption) | exact bRow_mk (by omega) (by omega) | (apply hbc; omega) | exact bRow_b (by omega) | exact bRow_t (by omega) | omega) hw_r_6 hq_r_18) q1190 q1192 qs11 q43 q1193 hdX3_come ⟨by decide, by decide⟩ hl.1 rfl rfl (Nat.le_of_ble_eq_true rfl) ⟨Nat.le_of_ble_eq_true rfl, Nat.le_of_ble_eq_true rfl⟩ hS (fun q z => Or.inl z) (fun q z => Or.inr z) dX3_step_98 (fun rv_c_19 H_c_19 locs hp_c_19 k_c_19 hS => ?_)
              have kw := kw.then k_c_19 (fun q e _ => e)
              have hq_r_18 := hq_r_18.keep k_c_19 (fun z => z.elim (Ne.symm (ne_oa hK rfl rfl hm_o_7 hq_r_18)) (ne_len hq_r_18 hq_o_7 (Nat.ne_of_beq_eq_false rfl)))
              have hK := hK.keep k_c_19 (fun q e => by have e : q = h ∨ q = mc := e; omega)
              obtain ⟨rfl, hw_r_20⟩ := hp_c_19
              refine W.eq (g2 := F0 m 101 ls [.int (iI (b2i (¬ alikeR ((cc) (k).toNat) (mk 0 ((((cc (k).toNat).2.1) + (t)))))))]) rfl ?_
              refine x_ret1i hx hb hr hlk hH hS (by omega) (by omega) ?_ dX3_step_101
              first | (exfalso; omega) | exact ⟨(_, _, _, _, _), (by unfold op_step; (repeat (first | with_reducible refine ifp (by omega) ?_ | with_reducible refine ifn (by omega) ?_)); first | rfl | exact comeF_s (by assumption) | exact comeF_n (by assumption) | exact comeF_s (if_pos (by omega)) | exact comeF_n (if_neg (by omega))), rfl, hw_r_20⟩
          · skip
            refine xi_iconst hx hb dX3_step_69 ?_
            refine lv_goto (tgt := 74) hx hb dX3_step_70 (by decide) ?_
            refine lv_istore_n (lv' := [(3, .int (iI (1))), (0, .ref (h)), (1, .int (iI (k))), (2, .int (iI (t)))]) hx hb dX3_step_74 rfl hl (by decide) rfl (fun ls hl => ?_)
            refine lv_aload_n hx hb dX3_step_75 rfl (lv_at hl 1 rfl) ?_
            refine lv_iload_n hx hb dX3_step_76 rfl (lv_at hl 2 rfl) ?_
            refine lv_iload_n hx hb dX3_step_77 rfl (lv_at hl 0 rfl) ?_
            refine xi_if_eq (tgt := 97) hx hb dX3_step_78 (by decide) (by omega) (fun c_78 => ?_) (fun c_78 => ?_)
            · skip
              refine lv_null hx hb dX3_step_97 ?_
              refine x_c1V (as := [.int (iI (k)), .null]) (rest := []) S hK hm_o_7 rfl rfl (c_X3_comeN l G H_c_5 (mc) (0) (ac) (no) (kn) (cc) (h) (k) (by omega) (by first | assumption | omega) (by first | assumption | omega) (by first | assumption | omega) (by assumption) hw_r_6) q1190 q1192 qs11 q43 q1193 hdX3_come ⟨by decide, by decide⟩ hl.1 rfl rfl (Nat.le_of_ble_eq_true rfl) ⟨Nat.le_of_ble_eq_true rfl, Nat.le_of_ble_eq_true rfl⟩ hS (fun q z => Or.inl z) (fun q z => Or.inr z) dX3_step_98 (fun rv_c_21 H_c_21 locs hp_c_21 k_c_21 hS => ?_)
              have kw := kw.then k_c_21 (fun q e _ => e)
              have hK := hK.keep k_c_21 (fun q e => by have e : q = h ∨ q = mc := e; omega)
              obtain ⟨rfl, hw_r_22⟩ := hp_c_21
              refine W.eq (g2 := F0 m 101 ls [.int (iI (-9))]) rfl ?_
              refine x_ret1i hx hb hr hlk hH hS (by omega) (by omega) ?_ dX3_step_101
              first | (exfalso; omega) | exact ⟨(_, _, _, _, _), (by unfold op_step; (repeat (first | with_reducible refine ifp (by omega) ?_ | with_reducible refine ifn (by omega) ?_)); first | rfl | exact comeF_s (by assumption) | exact comeF_n (by assumption) | exact comeF_s (if_pos (by omega)) | exact comeF_n (if_neg (by omega))), rfl, hw_r_22⟩
            · skip
              refine lv_aload_n hx hb dX3_step_81 rfl (lv_at hl 1 rfl) ?_
              refine x_get S hK in_X3 hm_o_7 rfl 4 (by decide) q1152 (fun x h => h) rfl dX3_step_82 ?_
              refine lv_iload_n hx hb dX3_step_85 rfl (lv_at hl 2 rfl) ?_
              refine x_aald S hK 3 rfl rfl hq_o_7 (by omega) (by omega) rfl dX3_step_86 ?_
              refine xi_iconst hx hb dX3_step_87 ?_
              refine x_iald (w := (cc (k).toNat).2.1) S hK hr_w_8 (by omega) (by decide) rfl dX3_step_88 ?_
              refine lv_iload_n hx hb dX3_step_89 rfl (lv_at hl 3 rfl) ?_
              refine xi_iadd hx hb dX3_step_90 ?_
              refine x_c1S (as := [.int (iI (((cc (k).toNat).2.1) + (t)))]) (rest := [.int (iI (k)), .ref (h)]) S hK (c_X3_exact l G H_c_5 (((cc (k).toNat).2.1) + (t)) (by omega) ) q1139 q1140 q43 q1141 hdX3_exact ⟨by decide, by decide⟩ hl.1 rfl rfl (Nat.le_of_ble_eq_true rfl) ⟨Nat.le_of_ble_eq_true rfl, Nat.le_of_ble_eq_true rfl⟩ hS (fun _ z => z.elim) (fun q z => Or.inr z) dX3_step_91 (fun rv_c_23 H_c_23 locs hp_c_23 k_c_23 hS => ?_)
              have kw := kw.then k_c_23 (fun q z _ => z.elim)
              have hK := hK.ext k_c_23
              have hw_r_6 := hw_r_6.ext k_c_23
              have hm_o_7 := hm_o_7.ext k_c_23
              have hq_o_7 := hq_o_7.ext k_c_23
              have hr_o_7 := hr_o_7.ext k_c_23
              have hr_w_8 := hr_w_8.ext k_c_23
              obtain ⟨a_r_24, rfl, hq_r_24⟩ := hp_c_23
              refine W.eq (g2 := F0 m 94 ls [.ref (a_r_24), .int (iI (k)), .ref (h)]) rfl ?_
              refine lv_goto (tgt := 98) hx hb dX3_step_94 (by decide) ?_
              refine x_c1V (as := [.int (iI (k)), .ref (a_r_24)]) (rest := []) S hK hm_o_7 rfl rfl (c_X3_come l G H_c_23 (mc) (0) (ac) (no) (kn) (cc) (mk 0 ((((cc (k).toNat).2.1) + (t)))) (h) (k) (a_r_24) (by omega) (by first | assumption | omega) (by first | assumption | omega) (by first | assumption | omega) (by assumption) (by omega) (by first | assumption | exact okR_b (by assumption) | exact bRow_mk (by omega) (by omega) | (apply hbc; omega) | exact bRow_b (by omega) | exact bRow_t (by omega) | omega) hw_r_6 hq_r_24) q1190 q1192 qs11 q43 q1193 hdX3_come ⟨by decide, by decide⟩ hl.1 rfl rfl (Nat.le_of_ble_eq_true rfl) ⟨Nat.le_of_ble_eq_true rfl, Nat.le_of_ble_eq_true rfl⟩ hS (fun q z => Or.inl z) (fun q z => Or.inr z) dX3_step_98 (fun rv_c_25 H_c_25 locs hp_c_25 k_c_25 hS => ?_)
              have kw := kw.then k_c_25 (fun q e _ => e)
              have hq_r_24 := hq_r_24.keep k_c_25 (fun z => z.elim (Ne.symm (ne_oa hK rfl rfl hm_o_7 hq_r_24)) (ne_len hq_r_24 hq_o_7 (Nat.ne_of_beq_eq_false rfl)))
              have hK := hK.keep k_c_25 (fun q e => by have e : q = h ∨ q = mc := e; omega)
              obtain ⟨rfl, hw_r_26⟩ := hp_c_25
              refine W.eq (g2 := F0 m 101 ls [.int (iI (b2i (¬ alikeR ((cc) (k).toNat) (mk 0 ((((cc (k).toNat).2.1) + (t)))))))]) rfl ?_
              refine x_ret1i hx hb hr hlk hH hS (by omega) (by omega) ?_ dX3_step_101
              first | (exfalso; omega) | exact ⟨(_, _, _, _, _), (by unfold op_step; (repeat (first | with_reducible refine ifp (by omega) ?_ | with_reducible refine ifn (by omega) ?_)); first | rfl | exact comeF_s (by assumption) | exact comeF_n (by assumption) | exact comeF_s (if_pos (by omega)) | exact comeF_n (if_neg (by omega))), rfl, hw_r_26⟩
      · skip
        obtain rfl : th_r_6 = 2 := by omega
        refine xi_iconst hx hb dX3_step_39 ?_
        refine x_ret1i hx hb hr hlk hH hS (by omega) (by omega) ?_ dX3_step_40
        first | (exfalso; omega) | exact ⟨(_, _, _, _, _), (by unfold op_step; (repeat (first | with_reducible refine ifp (by omega) ?_ | with_reducible refine ifn (by omega) ?_)); first | rfl | exact comeF_s (by assumption) | exact comeF_n (by assumption) | exact comeF_s (if_pos (by omega)) | exact comeF_n (if_neg (by omega))), rfl, hw_r_6⟩
    · skip
      refine xi_iconst hx hb dX3_step_27 ?_
      refine lv_goto (tgt := 32) hx hb dX3_step_28 (by decide) ?_
      refine xi_iconst hx hb dX3_step_32 ?_
      have hw_o_27 := hw_r_3
      obtain ⟨rb_o_27, hm_o_27, hq_o_27, hr_o_27, hza_o_27, hzc_o_27⟩ := hw_o_27
      refine x_c1V (as := [.int (iI (1)), .int (iI (2))]) (rest := []) S hK hm_o_27 rfl rfl (c_X3_refuse l G H_c_2 (mc) (0) (ac) (no) (kn) (cc) (h) (True) (2) (by omega) (by first | assumption | omega) (by first | assumption | omega) (by first | assumption | omega) (by assumption) (by omega) (by omega) hw_r_3) q1184 q1186 qs10 q43 q1187 hdX3_refuse ⟨by decide, by decide⟩ hl.1 rfl rfl (Nat.le_of_ble_eq_true rfl) ⟨Nat.le_of_ble_eq_true rfl, Nat.le_of_ble_eq_true rfl⟩ hS (fun q e => Or.inl (Or.inl e)) (fun q z => Or.inr z) dX3_step_33 (fun rv_c_28 H_c_28 locs hp_c_28 k_c_28 hS => ?_)
      have kw := kw.then k_c_28 (fun q e _ => Or.inl e)
      have hK := hK.keep k_c_28 (fun q e => by have e : q = h := e; omega)
      obtain ⟨th_r_29, hth_r_29, rfl, hw_r_29⟩ := hp_c_28
      have hth_r_29 : ((0 : Int) = 0 ∧ th_r_29 = (2)) ∨ ((0 : Int) ≠ 0 ∧ th_r_29 = (0)) := hth_r_29.elim (fun z => Or.inl ⟨z.1.2, z.2⟩) (fun z => Or.inr ⟨fun y => z.1 ⟨trivial, y⟩, z.2⟩)
      refine W.eq (g2 := F0 m 36 ls [.int (iI (b2i (0 < (th_r_29))))]) rfl ?_
      refine xi_ifb_eq (tgt := 41) hx hb dX3_step_36 (by decide) (fun c_36 => ?_) (fun c_36 => ?_)
      · skip
        obtain rfl : th_r_29 = 0 := by omega
        refine lv_aload_n hx hb dX3_step_41 rfl (lv_at hl 0 rfl) ?_
        have hw_o_30 := hw_r_29
        obtain ⟨rb_o_30, hm_o_30, hq_o_30, hr_o_30, hza_o_30, hzc_o_30⟩ := hw_o_30
        refine x_get S hK in_X3 hm_o_30 rfl 4 (by decide) q1152 (fun x h => h) rfl dX3_step_42 ?_
        refine lv_iload_n hx hb dX3_step_45 rfl (lv_at hl 1 rfl) ?_
        refine x_aald S hK 3 rfl rfl hq_o_30 (by omega) (by omega) rfl dX3_step_46 ?_
        have hr_w_31 := hr_o_30 (k).toNat (by omega)
        have hbw_w_31 := hbc (k).toNat (by omega)
        refine xi_iconst hx hb dX3_step_47 ?_
        refine x_iald (w := (cc (k).toNat).1) S hK hr_w_31 (by omega) (by decide) rfl dX3_step_48 ?_
        refine xi_if_ne (tgt := 73) hx hb dX3_step_49 (by decide) (by omega) (fun c_49 => ?_) (fun c_49 => ?_)
        · skip
          refine xi_iconst hx hb dX3_step_73 ?_
          refine lv_istore_n (lv' := [(3, .int (iI (0))), (0, .ref (h)), (1, .int (iI (k))), (2, .int (iI (t)))]) hx hb dX3_step_74 rfl hl (by decide) rfl (fun ls hl => ?_)
          refine lv_aload_n hx hb dX3_step_75 rfl (lv_at hl 1 rfl) ?_
          refine lv_iload_n hx hb dX3_step_76 rfl (lv_at hl 2 rfl) ?_
          refine lv_iload_n hx hb dX3_step_77 rfl (lv_at hl 0 rfl) ?_
          refine xi_if_eq (tgt := 97) hx hb dX3_step_78 (by decide) (by omega) (fun c_78 => ?_) (fun c_78 => ?_)
          · skip
            refine lv_null hx hb dX3_step_97 ?_
            refine x_c1V (as := [.int (iI (k)), .null]) (rest := []) S hK hm_o_30 rfl rfl (c_X3_comeN l G H_c_28 (mc) (0) (ac) (no) (kn) (cc) (h) (k) (by omega) (by first | assumption | omega) (by first | assumption | omega) (by first | assumption | omega) (by assumption) hw_r_29) q1190 q1192 qs11 q43 q1193 hdX3_come ⟨by decide, by decide⟩ hl.1 rfl rfl (Nat.le_of_ble_eq_true rfl) ⟨Nat.le_of_ble_eq_true rfl, Nat.le_of_ble_eq_true rfl⟩ hS (fun q z => Or.inl z) (fun q z => Or.inr z) dX3_step_98 (fun rv_c_32 H_c_32 locs hp_c_32 k_c_32 hS => ?_)
            have kw := kw.then k_c_32 (fun q e _ => e)
            have hK := hK.keep k_c_32 (fun q e => by have e : q = h ∨ q = mc := e; omega)
            obtain ⟨rfl, hw_r_33⟩ := hp_c_32
            refine W.eq (g2 := F0 m 101 ls [.int (iI (-9))]) rfl ?_
            refine x_ret1i hx hb hr hlk hH hS (by omega) (by omega) ?_ dX3_step_101
            first | (exfalso; omega) | exact ⟨(_, _, _, _, _), (by unfold op_step; (repeat (first | with_reducible refine ifp (by omega) ?_ | with_reducible refine ifn (by omega) ?_)); first | rfl | exact comeF_s (by assumption) | exact comeF_n (by assumption) | exact comeF_s (if_pos (by omega)) | exact comeF_n (if_neg (by omega))), rfl, hw_r_33⟩
          · skip
            refine lv_aload_n hx hb dX3_step_81 rfl (lv_at hl 1 rfl) ?_
            refine x_get S hK in_X3 hm_o_30 rfl 4 (by decide) q1152 (fun x h => h) rfl dX3_step_82 ?_
            refine lv_iload_n hx hb dX3_step_85 rfl (lv_at hl 2 rfl) ?_
            refine x_aald S hK 3 rfl rfl hq_o_30 (by omega) (by omega) rfl dX3_step_86 ?_
            refine xi_iconst hx hb dX3_step_87 ?_
            refine x_iald (w := (cc (k).toNat).2.1) S hK hr_w_31 (by omega) (by decide) rfl dX3_step_88 ?_
            refine lv_iload_n hx hb dX3_step_89 rfl (lv_at hl 3 rfl) ?_
            refine xi_iadd hx hb dX3_step_90 ?_
            refine x_c1S (as := [.int (iI (((cc (k).toNat).2.1) + (t)))]) (rest := [.int (iI (k)), .ref (h)]) S hK (c_X3_exact l G H_c_28 (((cc (k).toNat).2.1) + (t)) (by omega) ) q1139 q1140 q43 q1141 hdX3_exact ⟨by decide, by decide⟩ hl.1 rfl rfl (Nat.le_of_ble_eq_true rfl) ⟨Nat.le_of_ble_eq_true rfl, Nat.le_of_ble_eq_true rfl⟩ hS (fun _ z => z.elim) (fun q z => Or.inr z) dX3_step_91 (fun rv_c_34 H_c_34 locs hp_c_34 k_c_34 hS => ?_)
            have kw := kw.then k_c_34 (fun q z _ => z.elim)
            have hK := hK.ext k_c_34
            have hw_r_29 := hw_r_29.ext k_c_34
            have hm_o_30 := hm_o_30.ext k_c_34
            have hq_o_30 := hq_o_30.ext k_c_34
            have hr_o_30 := hr_o_30.ext k_c_34
            have hr_w_31 := hr_w_31.ext k_c_34
            obtain ⟨a_r_35, rfl, hq_r_35⟩ := hp_c_34
            refine W.eq (g2 := F0 m 94 ls [.ref (a_r_35), .int (iI (k)), .ref (h)]) rfl ?_
            refine lv_goto (tgt := 98) hx hb dX3_step_94 (by decide) ?_
            refine x_c1V (as := [.int (iI (k)), .ref (a_r_35)]) (rest := []) S hK hm_o_30 rfl rfl (c_X3_come l G H_c_34 (mc) (0) (ac) (no) (kn) (cc) (mk 0 ((((cc (k).toNat).2.1) + (t)))) (h) (k) (a_r_35) (by omega) (by first | assumption | omega) (by first | assumption | omega) (by first | assumption | omega) (by assumption) (by omega) (by first | assumption | exact okR_b (by assumption) | exact bRow_mk (by omega) (by omega) | (apply hbc; omega) | exact bRow_b (by omega) | exact bRow_t (by omega) | omega) hw_r_29 hq_r_35) q1190 q1192 qs11 q43 q1193 hdX3_come ⟨by decide, by decide⟩ hl.1 rfl rfl (Nat.le_of_ble_eq_true rfl) ⟨Nat.le_of_ble_eq_true rfl, Nat.le_of_ble_eq_true rfl⟩ hS (fun q z => Or.inl z) (fun q z => Or.inr z) dX3_step_98 (fun rv_c_36 H_c_36 locs hp_c_36 k_c_36 hS => ?_)
            have kw := kw.then k_c_36 (fun q e _ => e)
            have hq_r_35 := hq_r_35.keep k_c_36 (fun z => z.elim (Ne.symm (ne_oa hK rfl rfl hm_o_30 hq_r_35)) (ne_len hq_r_35 hq_o_30 (Nat.ne_of_beq_eq_false rfl)))
            have hK := hK.keep k_c_36 (fun q e => by have e : q = h ∨ q = mc := e; omega)
            obtain ⟨rfl, hw_r_37⟩ := hp_c_36
            refine W.eq (g2 := F0 m 101 ls [.int (iI (b2i (¬ alikeR ((cc) (k).toNat) (mk 0 ((((cc (k).toNat).2.1) + (t)))))))]) rfl ?_
            refine x_ret1i hx hb hr hlk hH hS (by omega) (by omega) ?_ dX3_step_101
            first | (exfalso; omega) | exact ⟨(_, _, _, _, _), (by unfold op_step; (repeat (first | with_reducible refine ifp (by omega) ?_ | with_reducible refine ifn (by omega) ?_)); first | rfl | exact comeF_s (by assumption) | exact comeF_n (by assumption) | exact comeF_s (if_pos (by omega)) | exact comeF_n (if_neg (by omega))), rfl, hw_r_37⟩
        · skip
          refine lv_aload_n hx hb dX3_step_52 rfl (lv_at hl 0 rfl) ?_
          refine x_get S hK in_X3 hm_o_30 rfl 4 (by decide) q1152 (fun x h => h) rfl dX3_step_53 ?_
          refine lv_iload_n hx hb dX3_step_56 rfl (lv_at hl 1 rfl) ?_
          refine x_aald S hK 3 rfl rfl hq_o_30 (by omega) (by omega) rfl dX3_step_57 ?_
          refine xi_iconst hx hb dX3_step_58 ?_
          refine x_iald (w := (cc (k).toNat).2.1) S hK hr_w_31 (by omega) (by decide) rfl dX3_step_59 ?_
          refine lv_iload_n hx hb dX3_step_60 rfl (lv_at hl 2 rfl) ?_
          refine xi_iadd hx hb dX3_step_61 ?_
          refine xi_i2l hx hb (by omega) dX3_step_62 ?_
          refine x_c0S (as := [.long (jI (((cc (k).toNat).2.1) + (t)))]) (rest := []) S hK (c_X3_isOfSet l G H_c_28 (((cc (k).toNat).2.1) + (t)) (by omega) ) q1227 q1228 q43 q1229 hdX3_isOfSet ⟨by decide, by decide⟩ hl.1 rfl rfl (Nat.le_of_ble_eq_true rfl) ⟨Nat.le_of_ble_eq_true rfl, Nat.le_of_ble_eq_true rfl⟩ dX3_step_63 ?_
          refine xi_ifb_eq (tgt := 73) hx hb dX3_step_66 (by decide) (fun c_66 => ?_) (fun c_66 => ?_)
          · skip
            refine xi_iconst hx hb dX3_step_73 ?_
            refine lv_istore_n (lv' := [(3, .int (iI (0))), (0, .ref (h)), (1, .int (iI (k))), (2, .int (iI (t)))]) hx hb dX3_step_74 rfl hl (by decide) rfl (fun ls hl => ?_)
            refine lv_aload_n hx hb dX3_step_75 rfl (lv_at hl 1 rfl) ?_
            refine lv_iload_n hx hb dX3_step_76 rfl (lv_at hl 2 rfl) ?_
            refine lv_iload_n hx hb dX3_step_77 rfl (lv_at hl 0 rfl) ?_
            refine xi_if_eq (tgt := 97) hx hb dX3_step_78 (by decide) (by omega) (fun c_78 => ?_) (fun c_78 => ?_)
            · skip
              refine lv_null hx hb dX3_step_97 ?_
              refine x_c1V (as := [.int (iI (k)), .null]) (rest := []) S hK hm_o_30 rfl rfl (c_X3_comeN l G H_c_28 (mc) (0) (ac) (no) (kn) (cc) (h) (k) (by omega) (by first | assumption | omega) (by first | assumption | omega) (by first | assumption | omega) (by assumption) hw_r_29) q1190 q1192 qs11 q43 q1193 hdX3_come ⟨by decide, by decide⟩ hl.1 rfl rfl (Nat.le_of_ble_eq_true rfl) ⟨Nat.le_of_ble_eq_true rfl, Nat.le_of_ble_eq_true rfl⟩ hS (fun q z => Or.inl z) (fun q z => Or.inr z) dX3_step_98 (fun rv_c_38 H_c_38 locs hp_c_38 k_c_38 hS => ?_)
              have kw := kw.then k_c_38 (fun q e _ => e)
              have hK := hK.keep k_c_38 (fun q e => by have e : q = h ∨ q = mc := e; omega)
              obtain ⟨rfl, hw_r_39⟩ := hp_c_38
              refine W.eq (g2 := F0 m 101 ls [.int (iI (-9))]) rfl ?_
              refine x_ret1i hx hb hr hlk hH hS (by omega) (by omega) ?_ dX3_step_101
              first | (exfalso; omega) | exact ⟨(_, _, _, _, _), (by unfold op_step; (repeat (first | with_reducible refine ifp (by omega) ?_ | with_reducible refine ifn (by omega) ?_)); first | rfl | exact comeF_s (by assumption) | exact comeF_n (by assumption) | exact comeF_s (if_pos (by omega)) | exact comeF_n (if_neg (by omega))), rfl, hw_r_39⟩
            · skip
              refine lv_aload_n hx hb dX3_step_81 rfl (lv_at hl 1 rfl) ?_
              refine x_get S hK in_X3 hm_o_30 rfl 4 (by decide) q1152 (fun x h => h) rfl dX3_step_82 ?_
              refine lv_iload_n hx hb dX3_step_85 rfl (lv_at hl 2 rfl) ?_
              refine x_aald S hK 3 rfl rfl hq_o_30 (by omega) (by omega) rfl dX3_step_86 ?_
              refine xi_iconst hx hb dX3_step_87 ?_
              refine x_iald (w := (cc (k).toNat).2.1) S hK hr_w_31 (by omega) (by decide) rfl dX3_step_88 ?_
              refine lv_iload_n hx hb dX3_step_89 rfl (lv_at hl 3 rfl) ?_
              refine xi_iadd hx hb dX3_step_90 ?_
              refine x_c1S (as := [.int (iI (((cc (k).toNat).2.1) + (t)))]) (rest := [.int (iI (k)), .ref (h)]) S hK (c_X3_exact l G H_c_28 (((cc (k).toNat).2.1) + (t)) (by omega) ) q1139 q1140 q43 q1141 hdX3_exact ⟨by decide, by decide⟩ hl.1 rfl rfl (Nat.le_of_ble_eq_true rfl) ⟨Nat.le_of_ble_eq_true rfl, Nat.le_of_ble_eq_true rfl⟩ hS (fun _ z => z.elim) (fun q z => Or.inr z) dX3_step_91 (fun rv_c_40 H_c_40 locs hp_c_40 k_c_40 hS => ?_)
              have kw := kw.then k_c_40 (fun q z _ => z.elim)
              have hK := hK.ext k_c_40
              have hw_r_29 := hw_r_29.ext k_c_40
              have hm_o_30 := hm_o_30.ext k_c_40
              have hq_o_30 := hq_o_30.ext k_c_40
              have hr_o_30 := hr_o_30.ext k_c_40
              have hr_w_31 := hr_w_31.ext k_c_40
              obtain ⟨a_r_41, rfl, hq_r_41⟩ := hp_c_40
              refine W.eq (g2 := F0 m 94 ls [.ref (a_r_41), .int (iI (k)), .ref (h)]) rfl ?_
              refine lv_goto (tgt := 98) hx hb dX3_step_94 (by decide) ?_
              refine x_c1V (as := [.int (iI (k)), .ref (a_r_41)]) (rest := []) S hK hm_o_30 rfl rfl (c_X3_come l G H_c_40 (mc) (0) (ac) (no) (kn) (cc) (mk 0 ((((cc (k).toNat).2.1) + (t)))) (h) (k) (a_r_41) (by omega) (by first | assumption | omega) (by first | assumption | omega) (by first | assumption | omega) (by assumption) (by omega) (by first | assumption | exact okR_b (by assumption) | exact bRow_mk (by omega) (by omega) | (apply hbc; omega) | exact bRow_b (by omega) | exact bRow_t (by omega) | omega) hw_r_29 hq_r_41) q1190 q1192 qs11 q43 q1193 hdX3_come ⟨by decide, by decide⟩ hl.1 rfl rfl (Nat.le_of_ble_eq_true rfl) ⟨Nat.le_of_ble_eq_true rfl, Nat.le_of_ble_eq_true rfl⟩ hS (fun q z => Or.inl z) (fun q z => Or.inr z) dX3_step_98 (fun rv_c_42 H_c_42 locs hp_c_42 k_c_42 hS => ?_)
              have kw := kw.then k_c_42 (fun q e _ => e)
              have hq_r_41 := hq_r_41.keep k_c_42 (fun z => z.elim (Ne.symm (ne_oa hK rfl rfl hm_o_30 hq_r_41)) (ne_len hq_r_41 hq_o_30 (Nat.ne_of_beq_eq_false rfl)))
              have hK := hK.keep k_c_42 (fun q e => by have e : q = h ∨ q = mc := e; omega)
              obtain ⟨rfl, hw_r_43⟩ := hp_c_42
              refine W.eq (g2 := F0 m 101 ls [.int (iI (b2i (¬ alikeR ((cc) (k).toNat) (mk 0 ((((cc (k).toNat).2.1) + (t)))))))]) rfl ?_
              refine x_ret1i hx hb hr hlk hH hS (by omega) (by omega) ?_ dX3_step_101
              first | (exfalso; omega) | exact ⟨(_, _, _, _, _), (by unfold op_step; (repeat (first | with_reducible refine ifp (by omega) ?_ | with_reducible refine ifn (by omega) ?_)); first | rfl | exact comeF_s (by assumption) | exact comeF_n (by assumption) | exact comeF_s (if_pos (by omega)) | exact comeF_n (if_neg (by omega))), rfl, hw_r_43⟩
          · skip
            refine xi_iconst hx hb dX3_step_69 ?_
            refine lv_goto (tgt := 74) hx hb dX3_step_70 (by decide) ?_
            refine lv_istore_n (lv' := [(3, .int (iI (1))), (0, .ref (h)), (1, .int (iI (k))), (2, .int (iI (t)))]) hx hb dX3_step_74 rfl hl (by decide) rfl (fun ls hl => ?_)
            refine lv_aload_n hx hb dX3_step_75 rfl (lv_at hl 1 rfl) ?_
            refine lv_iload_n hx hb dX3_step_76 rfl (lv_at hl 2 rfl) ?_
            refine lv_iload_n hx hb dX3_step_77 rfl (lv_at hl 0 rfl) ?_
            refine xi_if_eq (tgt := 97) hx hb dX3_step_78 (by decide) (by omega) (fun c_78 => ?_) (fun c_78 => ?_)
            · skip
              refine lv_null hx hb dX3_step_97 ?_
              refine x_c1V (as := [.int (iI (k)), .null]) (rest := []) S hK hm_o_30 rfl rfl (c_X3_comeN l G H_c_28 (mc) (0) (ac) (no) (kn) (cc) (h) (k) (by omega) (by first | assumption | omega) (by first | assumption | omega) (by first | assumption | omega) (by assumption) hw_r_29) q1190 q1192 qs11 q43 q1193 hdX3_come ⟨by decide, by decide⟩ hl.1 rfl rfl (Nat.le_of_ble_eq_true rfl) ⟨Nat.le_of_ble_eq_true rfl, Nat.le_of_ble_eq_true rfl⟩ hS (fun q z => Or.inl z) (fun q z => Or.inr z) dX3_step_98 (fun rv_c_44 H_c_44 locs hp_c_44 k_c_44 hS => ?_)
              have kw := kw.then k_c_44 (fun q e _ => e)
              have hK := hK.keep k_c_44 (fun q e => by have e : q = h ∨ q = mc := e; omega)
              obtain ⟨rfl, hw_r_45⟩ := hp_c_44
              refine W.eq (g2 := F0 m 101 ls [.int (iI (-9))]) rfl ?_
              refine x_ret1i hx hb hr hlk hH hS (by omega) (by omega) ?_ dX3_step_101
              first | (exfalso; omega) | exact ⟨(_, _, _, _, _), (by unfold op_step; (repeat (first | with_reducible refine ifp (by omega) ?_ | with_reducible refine ifn (by omega) ?_)); first | rfl | exact comeF_s (by assumption) | exact comeF_n (by assumption) | exact comeF_s (if_pos (by omega)) | exact comeF_n (if_neg (by omega))), rfl, hw_r_45⟩
            · skip
              refine lv_aload_n hx hb dX3_step_81 rfl (lv_at hl 1 rfl) ?_
              refine x_get S hK in_X3 hm_o_30 rfl 4 (by decide) q1152 (fun x h => h) rfl dX3_step_82 ?_
              refine lv_iload_n hx hb dX3_step_85 rfl (lv_at hl 2 rfl) ?_
              refine x_aald S hK 3 rfl rfl hq_o_30 (by omega) (by omega) rfl dX3_step_86 ?_
              refine xi_iconst hx hb dX3_step_87 ?_
              refine x_iald (w := (cc (k).toNat).2.1) S hK hr_w_31 (by omega) (by decide) rfl dX3_step_88 ?_
              refine lv_iload_n hx hb dX3_step_89 rfl (lv_at hl 3 rfl) ?_
              refine xi_iadd hx hb dX3_step_90 ?_
              refine x_c1S (as := [.int (iI (((cc (k).toNat).2.1) + (t)))]) (rest := [.int (iI (k)), .ref (h)]) S hK (c_X3_exact l G H_c_28 (((cc (k).toNat).2.1) + (t)) (by omega) ) q1139 q1140 q43 q1141 hdX3_exact ⟨by decide, by decide⟩ hl.1 rfl rfl (Nat.le_of_ble_eq_true rfl) ⟨Nat.le_of_ble_eq_true rfl, Nat.le_of_ble_eq_true rfl⟩ hS (fun _ z => z.elim) (fun q z => Or.inr z) dX3_step_91 (fun rv_c_46 H_c_46 locs hp_c_46 k_c_46 hS => ?_)
              have kw := kw.then k_c_46 (fun q z _ => z.elim)
              have hK := hK.ext k_c_46
              have hw_r_29 := hw_r_29.ext k_c_46
              have hm_o_30 := hm_o_30.ext k_c_46
              have hq_o_30 := hq_o_30.ext k_c_46
              have hr_o_30 := hr_o_30.ext k_c_46
              have hr_w_31 := hr_w_31.ext k_c_46
              obtain ⟨a_r_47, rfl, hq_r_47⟩ := hp_c_46
              refine W.eq (g2 := F0 m 94 ls [.ref (a_r_47), .int (iI (k)), .ref (h)]) rfl ?_
              refine lv_goto (tgt := 98) hx hb dX3_step_94 (by decide) ?_
              refine x_c1V (as := [.int (iI (k)), .ref (a_r_47)]) (rest := []) S hK hm_o_30 rfl rfl (c_X3_come l G H_c_46 (mc) (0) (ac) (no) (kn) (cc) (mk 0 ((((cc (k).toNat).2.1) + (t)))) (h) (k) (a_r_47) (by omega) (by first | assumption | omega) (by first | assumption | omega) (by first | assumption | omega) (by assumption) (by omega) (by first | assumption | exact okR_b (by assumption) | exact bRow_mk (by omega) (by omega) | (apply hbc; omega) | exact bRow_b (by omega) | exact bRow_t (by omega) | omega) hw_r_29 hq_r_47) q1190 q1192 qs11 q43 q1193 hdX3_come ⟨by decide, by decide⟩ hl.1 rfl rfl (Nat.le_of_ble_eq_true rfl) ⟨Nat.le_of_ble_eq_true rfl, Nat.le_of_ble_eq_true rfl⟩ hS (fun q z => Or.inl z) (fun q z => Or.inr z) dX3_step_98 (fun rv_c_48 H_c_48 locs hp_c_48 k_c_48 hS => ?_)
              have kw := kw.then k_c_48 (fun q e _ => e)
              have hq_r_47 := hq_r_47.keep k_c_48 (fun z => z.elim (Ne.symm (ne_oa hK rfl rfl hm_o_30 hq_r_47)) (ne_len hq_r_47 hq_o_30 (Nat.ne_of_beq_eq_false rfl)))
              have hK := hK.keep k_c_48 (fun q e => by have e : q = h ∨ q = mc := e; omega)
              obtain ⟨rfl, hw_r_49⟩ := hp_c_48
              refine W.eq (g2 := F0 m 101 ls [.int (iI (b2i (¬ alikeR ((cc) (k).toNat) (mk 0 ((((cc (k).toNat).2.1) + (t)))))))]) rfl ?_
              refine x_ret1i hx hb hr hlk hH hS (by omega) (by omega) ?_ dX3_step_101
              first | (exfalso; omega) | exact ⟨(_, _, _, _, _), (by unfold op_step; (repeat (first | with_reducible refine ifp (by omega) ?_ | with_reducible refine ifn (by omega) ?_)); first | rfl | exact comeF_s (by assumption) | exact comeF_n (by assumption) | exact comeF_s (if_pos (by omega)) | exact comeF_n (if_neg (by omega))), rfl, hw_r_49⟩
      · skip
        obtain rfl : th_r_29 = 2 := by omega
        refine xi_iconst hx hb dX3_step_39 ?_
        refine x_ret1i hx hb hr hlk hH hS (by omega) (by omega) ?_ dX3_step_40
        first | (exfalso; omega) | exact ⟨(_, _, _, _, _), (by unfold op_step; (repeat (first | with_reducible refine ifp (by omega) ?_ | with_reducible refine ifn (by omega) ?_)); first | rfl | exact comeF_s (by assumption) | exact comeF_n (by assumption) | exact comeF_s (if_pos (by omega)) | exact comeF_n (if_neg (by omega))), rfl, hw_r_29⟩

theorem hpX3_turn : plainFor yX3_turn = true := by decide +kernel
theorem hdX3_turn : nMH yX3_turn 1 := by decide +kernel
set_option maxHeartbeats 4000000 in
theorem c_X3_turn (l : Launch) (G : GG) (H0 : Heap) (mc : Nat) (th : Int) (ac : Int) (no : Int) (kn : Int) (cc : Nat → Row) (h : Nat) (k : Int) (r_k : -2147483648 ≤ k ∧ k < 2147483648) (hac : 0 ≤ ac ∧ ac ≤ 1000) (hno : 0 ≤ no ∧ no ≤ 1000) (hkn : 0 ≤ kn ∧ kn ≤ 1000) (hok : ∀ k : Nat, k < 8 → okR (cc k)) (hw : MW G (h) (mc) (th) (ac) (no) (kn) (cc) H0) : Ct1 l G yX3_turn cX3_turn 3 (Option.some Jvm.ClassFile.FieldType.int) 2 1 3 45 [.ref (h), .int (iI (k))] H0 (fun q => q = h ∨ q = mc) (fun (rv : Option Value) (H1 : Heap) => ∃ z : Res, op_turn ac no cc (k) = z ∧ rv = some (.int (iI z.2.1)) ∧ MW G h mc z.1 z.2.2.1 z.2.2.2.1 kn z.2.2.2.2 H1) := by
  refine Ct1.start hpX3_turn (Nat.le_of_ble_eq_true rfl) ?_
  intro p e s m below meth c ls hx hb hr S hlk hname hH hK hS hl
  have hl : lv_has ls 3 [(0, .ref (h)), (1, .int (iI (k)))] := hl
  have hbc : ∀ k : Nat, k < 8 → bRow (cc k) := fun k h => okR_b (hok k h)
  have kw : Keep (fun q => q = h ∨ q = mc) H0 H0 := Keep.rf
  have hz0 := hK.2.2.1
  refine lv_aload_n hx hb dX3_turn_0 rfl (lv_at hl 0 rfl) ?_
  refine lv_iload_n hx hb dX3_turn_1 rfl (lv_at hl 1 rfl) ?_
  refine x_c0S (as := [.int (iI (k))]) (rest := [.ref (h)]) S hK (c_X3_isNoCell l G H0 (k) (by omega) ) q1173 q1174 q43 q1175 hdX3_isNoCell ⟨by decide, by decide⟩ hl.1 rfl rfl (Nat.le_of_ble_eq_true rfl) ⟨Nat.le_of_ble_eq_true rfl, Nat.le_of_ble_eq_true rfl⟩ dX3_turn_2 ?_
  refine xi_iconst hx hb dX3_turn_5 ?_
  have hw_o_1 := hw
  obtain ⟨rb_o_1, hm_o_1, hq_o_1, hr_o_1, hza_o_1, hzc_o_1⟩ := hw_o_1
  refine x_c1V (as := [.int (iI (b2i (¬ (0 ≤ (k) ∧ (k) ≤ 7)))), .int (iI (1))]) (rest := []) S hK hm_o_1 rfl rfl (c_X3_start l G H0 (mc) (th) (ac) (no) (kn) (cc) (h) (¬ (0 ≤ (k) ∧ (k) ≤ 7)) (1) (by omega) (by first | assumption | omega) (by first | assumption | omega) (by first | assumption | omega) (by assumption) (by omega) hw) q1180 q1182 qs9 q43 q1183 hdX3_start ⟨by decide, by decide⟩ hl.1 rfl rfl (Nat.le_of_ble_eq_true rfl) ⟨Nat.le_of_ble_eq_true rfl, Nat.le_of_ble_eq_true rfl⟩ hS (fun q e => Or.inl (Or.inl e)) (fun q z => Or.inr z) dX3_turn_6 (fun rv_c_2 H_c_2 locs hp_c_2 k_c_2 hS => ?_)
  have kw := kw.then k_c_2 (fun q e _ => Or.inl e)
  have hK := hK.keep k_c_2 (fun q e => by have e : q = h := e; omega)
  obtain ⟨th_r_3, hth_r_3, rfl, hw_r_3⟩ := hp_c_2
  refine W.eq (g2 := F0 m 9 ls [.int (iI (b2i (0 < (th_r_3))))]) rfl ?_
  refine xi_ifb_eq (tgt := 14) hx hb dX3_turn_9 (by decide) (fun c_9 => ?_) (fun c_9 => ?_)
  · skip
    obtain rfl : th_r_3 = 0 := by omega
    refine lv_aload_n hx hb dX3_turn_14 rfl (lv_at hl 0 rfl) ?_
    have hw_o_4 := hw_r_3
    obtain ⟨rb_o_4, hm_o_4, hq_o_4, hr_o_4, hza_o_4, hzc_o_4⟩ := hw_o_4
    refine x_get S hK in_X3 hm_o_4 rfl 4 (by decide) q1152 (fun x h => h) rfl dX3_turn_15 ?_
    refine lv_iload_n hx hb dX3_turn_18 rfl (lv_at hl 1 rfl) ?_
    refine x_aald S hK 3 rfl rfl hq_o_4 (by omega) (by omega) rfl dX3_turn_19 ?_
    have hr_w_5 := hr_o_4 (k).toNat (by omega)
    have hbw_w_5 := hbc (k).toNat (by omega)
    refine lv_astore_n (lv' := [(2, .ref ((rb_o_4) ((k).toNat))), (0, .ref (h)), (1, .int (iI (k)))]) hx hb dX3_turn_20 rfl hl (by decide) rfl (fun ls hl => ?_)
    refine lv_aload_n hx hb dX3_turn_21 rfl (lv_at hl 1 rfl) ?_
    refine lv_iload_n hx hb dX3_turn_22 rfl (lv_at hl 2 rfl) ?_
    refine xi_iconst hx hb dX3_turn_23 ?_
    refine x_newai S hK q1164 (by omega) ⟨Nat.le_of_ble_eq_true rfl, Nat.le_of_ble_eq_true rfl⟩ hS dX3_turn_24 (fun a_n_6 H_n_6 ha_n_6 hq_n_6 k_n_6 hS => ?_)
    have hge_n_6 : H0.size ≤ a_n_6 := by rw [ha_n_6]; exact kw.1
    have ne_h_n_6 : h ≠ a_n_6 := by rw [ha_n_6]; exact Nat.ne_of_lt hm_o_4.lt
    have ne_mc_n_6 : mc ≠ a_n_6 := by rw [ha_n_6]; exact Nat.ne_of_lt hq_o_4.lt
    have sn_n_6_hw_r_3 := hw_r_3
    have sn_n_6_hm_o_4 := hm_o_4
    have sn_n_6_hq_o_4 := hq_o_4
    have sn_n_6_hr_o_4 := hr_o_4
    have sn_n_6_hr_w_5 := hr_w_5
    have kb_n_6 : Keep noW H_c_2 H_c_2 := Keep.rf
    have kw := kw.then k_n_6 (fun q z _ => z.elim)
    have hK := hK.ext k_n_6
    have kb_n_6 := kb_n_6.trans k_n_6
    have hw_r_3 := hw_r_3.ext k_n_6
    have hm_o_4 := hm_o_4.ext k_n_6
    have hq_o_4 := hq_o_4.ext k_n_6
    have hr_o_4 := hr_o_4.ext k_n_6
    have hr_w_5 := hr_w_5.ext k_n_6
    have hq_n_6 : IArr G a_n_6 3 (fun _ => 0) H_n_6 := hq_n_6
    refine lv_dup hx hb dX3_turn_26 rfl ?_
    refine xi_iconst hx hb dX3_turn_27 ?_
    refine lv_aload_n hx hb dX3_turn_28 rfl (lv_at hl 0 rfl) ?_
    refine xi_iconst hx hb dX3_turn_29 ?_
    refine x_iald (w := (cc (k).toNat).1) S hK hr_w_5 (by omega) (by decide) rfl dX3_turn_30 ?_
    refine x_iast S hK hq_n_6 (by omega) (by omega) hS (Or.inr (by omega)) dX3_turn_31 (fun H_s_7 locs hq_s_7 k_s_7 hz_s_7 hS => ?_)
    have kw := kw.then k_s_7 (fun q e hlt => by have e : q = a_n_6 := e; exact absurd hlt (by omega))
    have hK := hK.keep k_s_7 (fun q e => by have e : q = a_n_6 := e; omega)
    have kb_n_6 := kb_n_6.then k_s_7 (fun q e hlt => by have e : q = a_n_6 := e; exact absurd hlt (by omega))
    have hw_r_3 := sn_n_6_hw_r_3.ext kb_n_6
    have hm_o_4 := sn_n_6_hm_o_4.ext kb_n_6
    have hq_o_4 := sn_n_6_hq_o_4.ext kb_n_6
    have hr_o_4 := sn_n_6_hr_o_4.ext kb_n_6
    have hr_w_5 := sn_n_6_hr_w_5.ext kb_n_6
    have hq_n_6 : IArr G a_n_6 3 (upd (fun _ => 0) (0 : Int).toNat (iI ((cc (k).toNat).1))) H_s_7 := hq_s_7
    refine lv_dup hx hb dX3_turn_32 rfl ?_
    refine xi_iconst hx hb dX3_turn_33 ?_
    refine lv_aload_n hx hb dX3_turn_34 rfl (lv_at hl 0 rfl) ?_
    refine xi_iconst hx hb dX3_turn_35 ?_
    refine x_iald (w := (cc (k).toNat).2.1) S hK hr_w_5 (by omega) (by decide) rfl dX3_turn_36 ?_
    refine xi_ineg hx hb dX3_turn_37 ?_
    refine x_iast S hK hq_n_6 (by omega) (by omega) hS (Or.inr (by omega)) dX3_turn_38 (fun H_s_8 locs hq_s_8 k_s_8 hz_s_8 hS => ?_)
    have kw := kw.then k_s_8 (fun q e hlt => by have e : q = a_n_6 := e; exact absurd hlt (by omega))
    have hK := hK.keep k_s_8 (fun q e => by have e : q = a_n_6 := e; omega)
    have kb_n_6 := kb_n_6.then k_s_8 (fun q e hlt => by have e : q = a_n_6 := e; exact absurd hlt (by omega))
    have hw_r_3 := sn_n_6_hw_r_3.ext kb_n_6
    have hm_o_4 := sn_n_6_hm_o_4.ext kb_n_6
    have hq_o_4 := sn_n_6_hq_o_4.ext kb_n_6
    have hr_o_4 := sn_n_6_hr_o_4.ext kb_n_6
    have hr_w_5 := sn_n_6_hr_w_5.ext kb_n_6
    have hq_n_6 : IArr G a_n_6 3 (upd (upd (fun _ => 0) (0 : Int).toNat (iI ((cc (k).toNat).1))) (1 : Int).toNat (iI (-((cc (k).toNat).2.1)))) H_s_8 := hq_s_8
    refine lv_dup hx hb dX3_turn_39 rfl ?_
    refine xi_iconst hx hb dX3_turn_40 ?_
    refine xi_iconst hx hb dX3_turn_41 ?_
    refine lv_aload_n hx hb dX3_turn_42 rfl (lv_at hl 0 rfl) ?_
    refine xi_iconst hx hb dX3_turn_43 ?_
    refine x_iald (w := (cc (k).toNat).2.2) S hK hr_w_5 (by omega) (by decide) rfl dX3_turn_44 ?_
    refine xi_isub hx hb dX3_turn_45 ?_
    refine x_iast S hK hq_n_6 (by omega) (by omega) hS (Or.inr (by omega)) dX3_turn_46 (fun H_s_9 locs hq_s_9 k_s_9 hz_s_9 hS => ?_)
    have kw := kw.then k_s_9 (fun q e hlt => by have e : q = a_n_6 := e; exact absurd hlt (by omega))
    have hK := hK.keep k_s_9 (fun q e => by have e : q = a_n_6 := e; omega)
    have kb_n_6 := kb_n_6.then k_s_9 (fun q e hlt => by have e : q = a_n_6 := e; exact absurd hlt (by omega))
    have hw_r_3 := sn_n_6_hw_r_3.ext kb_n_6
    have hm_o_4 := sn_n_6_hm_o_4.ext kb_n_6
    have hq_o_4 := sn_n_6_hq_o_4.ext kb_n_6
    have hr_o_4 := sn_n_6_hr_o_4.ext kb_n_6
    have hr_w_5 := sn_n_6_hr_w_5.ext kb_n_6
    have hq_n_6 : IArr G a_n_6 3 (upd (upd (upd (fun _ => 0) (0 : Int).toNat (iI ((cc (k).toNat).1))) (1 : Int).toNat (iI (-((cc (k).toNat).2.1)))) (2 : Int).toNat (iI ((1) - ((cc (k).toNat).2.2)))) H_s_9 := hq_s_9
    have hq_n_6 : RowAt G a_n_6 ((cc (k).toNat).1, -((cc (k).toNat).2.1), (1) - ((cc (k).toNat).2.2)) H_s_9 := row_of hq_n_6
    refine x_c1V (as := [.int (iI (k)), .ref (a_n_6)]) (rest := []) S hK hm_o_4 rfl rfl (c_X3_come l G H_s_9 (mc) (0) (ac) (no) (kn) (cc) (((cc (k).toNat).1, -((cc (k).toNat).2.1), (1) - ((cc (k).toNat).2.2))) (h) (k) (a_n_6) (by omega) (by first | assumption | omega) (by first | assumption | omega) (by first | assumption | omega) (by assumption) (by omega) (by first | assumption | exact okR_b (by assumption) | exact bRow_mk (by omega) (by omega) | (apply hbc; omega) | exact bRow_b (by omega) | exact bRow_t (by omega) | omega) hw_r_3 hq_n_6) q1190 q1192 qs11 q43 q1193 hdX3_come ⟨by decide, by decide⟩ hl.1 rfl rfl (Nat.le_of_ble_eq_true rfl) ⟨Nat.le_of_ble_eq_true rfl, Nat.le_of_ble_eq_true rfl⟩ hS (fun q z => Or.inl z) (fun q z => Or.inr z) dX3_turn_47 (fun rv_c_10 H_c_10 locs hp_c_10 k_c_10 hS => ?_)
    have kw := kw.then k_c_10 (fun q e _ => e)
    have hq_n_6 := hq_n_6.keep k_c_10 (fun z => z.elim (Ne.symm (ne_oa hK rfl rfl hm_o_4 hq_n_6)) (ne_len hq_n_6 hq_o_4 (Nat.ne_of_beq_eq_false rfl)))
    have hK := hK.keep k_c_10 (fun q e => by have e : q = h ∨ q = mc := e; omega)
    obtain ⟨rfl, hw_r_11⟩ := hp_c_10
    refine W.eq (g2 := F0 m 50 ls [.int (iI (b2i (¬ alikeR ((cc) (k).toNat) (((cc (k).toNat).1, -((cc (k).toNat).2.1), (1) - ((cc (k).toNat).2.2))))))]) rfl ?_
    refine x_ret1i hx hb hr hlk hH hS (by omega) (by omega) ?_ dX3_turn_50
    first | (exfalso; omega) | exact ⟨(_, _, _, _, _), (by unfold op_turn; (repeat (first | with_reducible refine ifp (by omega) ?_ | with_reducible refine ifn (by omega) ?_)); first | rfl | exact comeF_s (by assumption) | exact comeF_n (by assumption) | exact comeF_s (if_pos (by omega)) | exact comeF_n (if_neg (by omega))), rfl, hw_r_11⟩
  · skip
    obtain rfl : th_r_3 = 1 := by omega
    refine xi_iconst hx hb dX3_turn_12 ?_
    refine x_ret1i hx hb hr hlk hH hS (by omega) (by omega) ?_ dX3_turn_13
    first | (exfalso; omega) | exact ⟨(_, _, _, _, _), (by unfold op_turn; (repeat (first | with_reducible refine ifp (by omega) ?_ | with_reducible refine ifn (by omega) ?_)); first | rfl | exact comeF_s (by assumption) | exact comeF_n (by assumption) | exact comeF_s (if_pos (by omega)) | exact comeF_n (if_neg (by omega))), rfl, hw_r_3⟩

theorem hpX3_act : plainFor yX3_act = true := by decide +kernel
theorem hdX3_act : nMH yX3_act 3 := by decide +kernel
set_option maxHeartbeats 4000000 in
theorem c_X3_act (l : Launch) (G : GG) (H0 : Heap) (mc : Nat) (th : Int) (ac : Int) (no : Int) (kn : Int) (cc : Nat → Row) (h : Nat) (k : Int) (j : Int) (how : Int) (r_k : -2147483648 ≤ k ∧ k < 2147483648) (r_j : -2147483648 ≤ j ∧ j < 2147483648) (r_how : -2147483648 ≤ how ∧ how < 2147483648) (hac : 0 ≤ ac ∧ ac ≤ 1000) (hno : 0 ≤ no ∧ no ≤ 1000) (hkn : 0 ≤ kn ∧ kn ≤ 1000) (hok : ∀ k : Nat, k < 8 → okR (cc k)) (hw : MW G (h) (mc) (th) (ac) (no) (kn) (cc) H0) : Ct1 l G yX3_act cX3_act 4 (Option.some Jvm.ClassFile.FieldType.int) 5 1 3 114 [.ref (h), .int (iI (k)), .int (iI (j)), .int (iI (how))] H0 (fun q => q = h ∨ q = mc) (fun (rv : Option Value) (H1 : Heap) => ∃ z : Res, op_act ac no cc (k) (j) (how) = z ∧ rv = some (.int (iI z.2.1)) ∧ MW G h mc z.1 z.2.2.1 z.2.2.2.1 kn z.2.2.2.2 H1) := by
  refine Ct1.start hpX3_act (Nat.le_of_ble_eq_true rfl) ?_
  intro p e s m below meth c ls hx hb hr S hlk hname hH hK hS hl
  have hl : lv_has ls 4 [(0, .ref (h)), (1, .int (iI (k))), (2, .int (iI (j))), (3, .int (iI (how)))] := hl
  have hbc : ∀ k : Nat, k < 8 → bRow (cc k) := fun k h => okR_b (hok k h)
  have kw : Keep (fun q => q = h ∨ q = mc) H0 H0 := Keep.rf
  have hz0 := hK.2.2.1
  refine lv_aload_n hx hb dX3_act_0 rfl (lv_at hl 0 rfl) ?_
  refine lv_iload_n hx hb dX3_act_1 rfl (lv_at hl 1 rfl) ?_
  refine x_c0S (as := [.int (iI (k))]) (rest := [.ref (h)]) S hK (c_X3_isNoCell l G H0 (k) (by omega) ) q1173 q1174 q43 q1175 hdX3_isNoCell ⟨by decide, by decide⟩ hl.1 rfl rfl (Nat.le_of_ble_eq_true rfl) ⟨Nat.le_of_ble_eq_true rfl, Nat.le_of_ble_eq_true rfl⟩ dX3_act_2 ?_
  refine xi_ifb_ne (tgt := 15) hx hb dX3_act_5 (by decide) (fun c_5 => ?_) (fun c_5 => ?_)
  · skip
    refine xi_iconst hx hb dX3_act_15 ?_
    refine lv_goto (tgt := 20) hx hb dX3_act_16 (by decide) ?_
    refine xi_iconst hx hb dX3_act_20 ?_
    have hw_o_1 := hw
    obtain ⟨rb_o_1, hm_o_1, hq_o_1, hr_o_1, hza_o_1, hzc_o_1⟩ := hw_o_1
    refine x_c1V (as := [.int (iI (1)), .int (iI (1))]) (rest := []) S hK hm_o_1 rfl rfl (c_X3_start l G H0 (mc) (th) (ac) (no) (kn) (cc) (h) (True) (1) (by omega) (by first | assumption | omega) (by first | assumption | omega) (by first | assumption | omega) (by assumption) (by omega) hw) q1180 q1182 qs9 q43 q1183 hdX3_start ⟨by decide, by decide⟩ hl.1 rfl rfl (Nat.le_of_ble_eq_true rfl) ⟨Nat.le_of_ble_eq_true rfl, Nat.le_of_ble_eq_true rfl⟩ hS (fun q e => Or.inl (Or.inl e)) (fun q z => Or.inr z) dX3_act_21 (fun rv_c_2 H_c_2 locs hp_c_2 k_c_2 hS => ?_)
    have kw := kw.then k_c_2 (fun q e _ => Or.inl e)
    have hK := hK.keep k_c_2 (fun q e => by have e : q = h := e; omega)
    obtain ⟨th_r_3, hth_r_3, rfl, hw_r_3⟩ := hp_c_2
    have hth_r_3 := hth_r_3.elim (fun z => z.2) (fun z => absurd trivial z.1)
    refine W.eq (g2 := F0 m 24 ls [.int (iI (b2i (0 < (th_r_3))))]) rfl ?_
    refine xi_ifb_eq (tgt := 29) hx hb dX3_act_24 (by decide) (fun c_24 => ?_) (fun c_24 => ?_)
    · skip
      obtain rfl : th_r_3 = 0 := by omega
      refine lv_aload_n hx hb dX3_act_29 rfl (lv_at hl 0 rfl) ?_
      refine lv_iload_n hx hb dX3_act_30 rfl (lv_at hl 2 rfl) ?_
      refine lv_aload_n hx hb dX3_act_31 rfl (lv_at hl 0 rfl) ?_
      have hw_o_4 := hw_r_3
      obtain ⟨rb_o_4, hm_o_4, hq_o_4, hr_o_4, hza_o_4, hzc_o_4⟩ := hw_o_4
      refine x_get S hK in_X3 hm_o_4 rfl 4 (by decide) q1152 (fun x h => h) rfl dX3_act_32 ?_
      refine lv_iload_n hx hb dX3_act_35 rfl (lv_at hl 1 rfl) ?_
      refine x_aald S hK 3 rfl rfl hq_o_4 (by omega) (by omega) rfl dX3_act_36 ?_
      have hr_w_5 := hr_o_4 (k).toNat (by omega)
      have hbw_w_5 := hbc (k).toNat (by omega)
      refine lv_iload_n hx hb dX3_act_37 rfl (lv_at hl 3 rfl) ?_
      refine x_c1S (as := [.ref ((rb_o_4) ((k).toNat)), .int (iI (how))]) (rest := [.int (iI (j)), .ref (h)]) S hK (c_X3_become l G H_c_2 (cc (k).toNat) ((rb_o_4) ((k).toNat)) (how) (by omega) (by first | assumption | (apply hbc; omega)) hr_w_5) q1245 q1246 q43 q1247 hdX3_become ⟨by decide, by decide⟩ hl.1 rfl rfl (Nat.le_of_ble_eq_true rfl) ⟨Nat.le_of_ble_eq_true rfl, Nat.le_of_ble_eq_true rfl⟩ hS (fun _ z => z.elim) (fun q z => Or.inr z) dX3_act_38 (fun rv_c_6 H_c_6 locs hp_c_6 k_c_6 hS => ?_)
      have kw := kw.then k_c_6 (fun q z _ => z.elim)
      have hK := hK.ext k_c_6
      have hw_r_3 := hw_r_3.ext k_c_6
      have hm_o_4 := hm_o_4.ext k_c_6
      have hq_o_4 := hq_o_4.ext k_c_6
      have hr_o_4 := hr_o_4.ext k_c_6
      have hr_w_5 := hr_w_5.ext k_c_6
      rcases hp_c_6 with ⟨r_r_7, a_r_7, e_r_7, rfl, hq_r_7⟩ | ⟨e_r_7, rfl⟩
      · skip
        refine W.eq (g2 := F0 m 41 ls [.ref (a_r_7), .int (iI (j)), .ref (h)]) rfl ?_
        refine x_c1V (as := [.int (iI (j)), .ref (a_r_7)]) (rest := []) S hK hm_o_4 rfl rfl (c_X3_come l G H_c_6 (mc) (0) (ac) (no) (kn) (cc) (r_r_7) (h) (j) (a_r_7) (by omega) (by first | assumption | omega) (by first | assumption | omega) (by first | assumption | omega) (by assumption) (by omega) (by exact okR_b (becomeR_ok (hok (k).toNat (by omega)) (by assumption))) hw_r_3 hq_r_7) q1190 q1192 qs11 q43 q1193 hdX3_come ⟨by decide, by decide⟩ hl.1 rfl rfl (Nat.le_of_ble_eq_true rfl) ⟨Nat.le_of_ble_eq_true rfl, Nat.le_of_ble_eq_true rfl⟩ hS (fun q z => Or.inl z) (fun q z => Or.inr z) dX3_act_41 (fun rv_c_8 H_c_8 locs hp_c_8 k_c_8 hS => ?_)
        have kw := kw.then k_c_8 (fun q e _ => e)
        have hq_r_7 := hq_r_7.keep k_c_8 (fun z => z.elim (Ne.symm (ne_oa hK rfl rfl hm_o_4 hq_r_7)) (ne_len hq_r_7 hq_o_4 (Nat.ne_of_beq_eq_false rfl)))
        have hK := hK.keep k_c_8 (fun q e => by have e : q = h ∨ q = mc := e; omega)
        obtain ⟨rfl, hw_r_9⟩ := hp_c_8
        refine W.eq (g2 := F0 m 44 ls [.int (iI (b2i (¬ alikeR ((cc) (j).toNat) (r_r_7))))]) rfl ?_
        refine x_ret1i hx hb hr hlk hH hS (by omega) (by omega) ?_ dX3_act_44
        first | (exfalso; omega) | exact ⟨(_, _, _, _, _), (by unfold op_act; (repeat (first | with_reducible refine ifp (by omega) ?_ | with_reducible refine ifn (by omega) ?_)); first | rfl | exact comeF_s (by assumption) | exact comeF_n (by assumption) | exact comeF_s (if_pos (by omega)) | exact comeF_n (if_neg (by omega))), rfl, hw_r_9⟩
      · skip
        refine W.eq (g2 := F0 m 41 ls [.null, .int (iI (j)), .ref (h)]) rfl ?_
        refine x_c1V (as := [.int (iI (j)), .null]) (rest := []) S hK hm_o_4 rfl rfl (c_X3_comeN l G H_c_6 (mc) (0) (ac) (no) (kn) (cc) (h) (j) (by omega) (by first | assumption | omega) (by first | assumption | omega) (by first | assumption | omega) (by assumption) hw_r_3) q1190 q1192 qs11 q43 q1193 hdX3_come ⟨by decide, by decide⟩ hl.1 rfl rfl (Nat.le_of_ble_eq_true rfl) ⟨Nat.le_of_ble_eq_true rfl, Nat.le_of_ble_eq_true rfl⟩ hS (fun q z => Or.inl z) (fun q z => Or.inr z) dX3_act_41 (fun rv_c_10 H_c_10 locs hp_c_10 k_c_10 hS => ?_)
        have kw := kw.then k_c_10 (fun q e _ => e)
        have hK := hK.keep k_c_10 (fun q e => by have e : q = h ∨ q = mc := e; omega)
        obtain ⟨rfl, hw_r_11⟩ := hp_c_10
        refine W.eq (g2 := F0 m 44 ls [.int (iI (-9))]) rfl ?_
        refine x_ret1i hx hb hr hlk hH hS (by omega) (by omega) ?_ dX3_act_44
        first | (exfalso; omega) | exact ⟨(_, _, _, _, _), (by unfold op_act; (repeat (first | with_reducible refine ifp (by omega) ?_ | with_reducible refine ifn (by omega) ?_)); first | rfl | exact comeF_s (by assumption) | exact comeF_n (by assumption) | exact comeF_s (if_pos (by omega)) | exact comeF_n (if_neg (by omega))), rfl, hw_r_11⟩
    · skip
      obtain rfl : th_r_3 = 1 := by omega
      refine xi_iconst hx hb dX3_act_27 ?_
      refine x_ret1i hx hb hr hlk hH hS (by omega) (by omega) ?_ dX3_act_28
      first | (exfalso; omega) | exact ⟨(_, _, _, _, _), (by unfold op_act; (repeat (first | with_reducible refine ifp (by omega) ?_ | with_reducible refine ifn (by omega) ?_)); first | rfl | exact comeF_s (by assumption) | exact comeF_n (by assumption) | exact comeF_s (if_pos (by omega)) | exact comeF_n (if_neg (by omega))), rfl, hw_r_3⟩
  · skip
    refine lv_iload_n hx hb dX3_act_8 rfl (lv_at hl 2 rfl) ?_
    refine x_c0S (as := [.int (iI (j))]) (rest := [.ref (h)]) S hK (c_X3_isNoCell l G H0 (j) (by omega) ) q1173 q1174 q43 q1175 hdX3_isNoCell ⟨by decide, by decide⟩ hl.1 rfl rfl (Nat.le_of_ble_eq_true rfl) ⟨Nat.le_of_ble_eq_true rfl, Nat.le_of_ble_eq_true rfl⟩ dX3_act_9 ?_
    refine xi_ifb_eq (tgt := 19) hx hb dX3_act_12 (by decide) (fun c_12 => ?_) (fun c_12 => ?_)
    · skip
      refine xi_iconst hx hb dX3_act_19 ?_
      refine xi_iconst hx hb dX3_act_20 ?_
      have hw_o_12 := hw
      obtain ⟨rb_o_12, hm_o_12, hq_o_12, hr_o_12, hza_o_12, hzc_o_12⟩ := hw_o_12
      refine x_c1V (as := [.int (iI (0)), .int (iI (1))]) (rest := []) S hK hm_o_12 rfl rfl (c_X3_start l G H0 (mc) (th) (ac) (no) (kn) (cc) (h) (False) (1) (by omega) (by first | assumption | omega) (by first | assumption | omega) (by first | assumption | omega) (by assumption) (by omega) hw) q1180 q1182 qs9 q43 q1183 hdX3_start ⟨by decide, by decide⟩ hl.1 rfl rfl (Nat.le_of_ble_eq_true rfl) ⟨Nat.le_of_ble_eq_true rfl, Nat.le_of_ble_eq_true rfl⟩ hS (fun q e => Or.inl (Or.inl e)) (fun q z => Or.inr z) dX3_act_21 (fun rv_c_13 H_c_13 locs hp_c_13 k_c_13 hS => ?_)
      have kw := kw.then k_c_13 (fun q e _ => Or.inl e)
      have hK := hK.keep k_c_13 (fun q e => by have e : q = h := e; omega)
      obtain ⟨th_r_14, hth_r_14, rfl, hw_r_14⟩ := hp_c_13
      have hth_r_14 := hth_r_14.elim (fun z => z.1.elim) (fun z => z.2)
      refine W.eq (g2 := F0 m 24 ls [.int (iI (b2i (0 < (th_r_14))))]) rfl ?_
      refine xi_ifb_eq (tgt := 29) hx hb dX3_act_24 (by decide) (fun c_24 => ?_) (fun c_24 => ?_)
      · skip
        obtain rfl : th_r_14 = 0 := by omega
        refine lv_aload_n hx hb dX3_act_29 rfl (lv_at hl 0 rfl) ?_
        refine lv_iload_n hx hb dX3_act_30 rfl (lv_at hl 2 rfl) ?_
        refine lv_aload_n hx hb dX3_act_31 rfl (lv_at hl 0 rfl) ?_
        have hw_o_15 := hw_r_14
        obtain ⟨rb_o_15, hm_o_15, hq_o_15, hr_o_15, hza_o_15, hzc_o_15⟩ := hw_o_15
        refine x_get S hK in_X3 hm_o_15 rfl 4 (by decide) q1152 (fun x h => h) rfl dX3_act_32 ?_
        refine lv_iload_n hx hb dX3_act_35 rfl (lv_at hl 1 rfl) ?_
        refine x_aald S hK 3 rfl rfl hq_o_15 (by omega) (by omega) rfl dX3_act_36 ?_
        have hr_w_16 := hr_o_15 (k).toNat (by omega)
        have hbw_w_16 := hbc (k).toNat (by omega)
        refine lv_iload_n hx hb dX3_act_37 rfl (lv_at hl 3 rfl) ?_
        refine x_c1S (as := [.ref ((rb_o_15) ((k).toNat)), .int (iI (how))]) (rest := [.int (iI (j)), .ref (h)]) S hK (c_X3_become l G H_c_13 (cc (k).toNat) ((rb_o_15) ((k).toNat)) (how) (by omega) (by first | assumption | (apply hbc; omega)) hr_w_16) q1245 q1246 q43 q1247 hdX3_become ⟨by decide, by decide⟩ hl.1 rfl rfl (Nat.le_of_ble_eq_true rfl) ⟨Nat.le_of_ble_eq_true rfl, Nat.le_of_ble_eq_true rfl⟩ hS (fun _ z => z.elim) (fun q z => Or.inr z) dX3_act_38 (fun rv_c_17 H_c_17 locs hp_c_17 k_c_17 hS => ?_)
        have kw := kw.then k_c_17 (fun q z _ => z.elim)
        have hK := hK.ext k_c_17
        have hw_r_14 := hw_r_14.ext k_c_17
        have hm_o_15 := hm_o_15.ext k_c_17
        have hq_o_15 := hq_o_15.ext k_c_17
        have hr_o_15 := hr_o_15.ext k_c_17
        have hr_w_16 := hr_w_16.ext k_c_17
        rcases hp_c_17 with ⟨r_r_18, a_r_18, e_r_18, rfl, hq_r_18⟩ | ⟨e_r_18, rfl⟩
        · skip
          refine W.eq (g2 := F0 m 41 ls [.ref (a_r_18), .int (iI (j)), .ref (h)]) rfl ?_
          refine x_c1V (as := [.int (iI (j)), .ref (a_r_18)]) (rest := []) S hK hm_o_15 rfl rfl (c_X3_come l G H_c_17 (mc) (0) (ac) (no) (kn) (cc) (r_r_18) (h) (j) (a_r_18) (by omega) (by first | assumption | omega) (by first | assumption | omega) (by first | assumption | omega) (by assumption) (by omega) (by exact okR_b (becomeR_ok (hok (k).toNat (by omega)) (by assumption))) hw_r_14 hq_r_18) q1190 q1192 qs11 q43 q1193 hdX3_come ⟨by decide, by decide⟩ hl.1 rfl rfl (Nat.le_of_ble_eq_true rfl) ⟨Nat.le_of_ble_eq_true rfl, Nat.le_of_ble_eq_true rfl⟩ hS (fun q z => Or.inl z) (fun q z => Or.inr z) dX3_act_41 (fun rv_c_19 H_c_19 locs hp_c_19 k_c_19 hS => ?_)
          have kw := kw.then k_c_19 (fun q e _ => e)
          have hq_r_18 := hq_r_18.keep k_c_19 (fun z => z.elim (Ne.symm (ne_oa hK rfl rfl hm_o_15 hq_r_18)) (ne_len hq_r_18 hq_o_15 (Nat.ne_of_beq_eq_false rfl)))
          have hK := hK.keep k_c_19 (fun q e => by have e : q = h ∨ q = mc := e; omega)
          obtain ⟨rfl, hw_r_20⟩ := hp_c_19
          refine W.eq (g2 := F0 m 44 ls [.int (iI (b2i (¬ alikeR ((cc) (j).toNat) (r_r_18))))]) rfl ?_
          refine x_ret1i hx hb hr hlk hH hS (by omega) (by omega) ?_ dX3_act_44
          first | (exfalso; omega) | exact ⟨(_, _, _, _, _), (by unfold op_act; (repeat (first | with_reducible refine ifp (by omega) ?_ | with_reducible refine ifn (by omega) ?_)); first | rfl | exact comeF_s (by assumption) | exact comeF_n (by assumption) | exact comeF_s (if_pos (by omega)) | exact comeF_n (if_neg (by omega))), rfl, hw_r_20⟩
        · skip
          refine W.eq (g2 := F0 m 41 ls [.null, .int (iI (j)), .ref (h)]) rfl ?_
          refine x_c1V (as := [.int (iI (j)), .null]) (rest := []) S hK hm_o_15 rfl rfl (c_X3_comeN l G H_c_17 (mc) (0) (ac) (no) (kn) (cc) (h) (j) (by omega) (by first | assumption | omega) (by first | assumption | omega) (by first | assumption | omega) (by assumption) hw_r_14) q1190 q1192 qs11 q43 q1193 hdX3_come ⟨by decide, by decide⟩ hl.1 rfl rfl (Nat.le_of_ble_eq_true rfl) ⟨Nat.le_of_ble_eq_true rfl, Nat.le_of_ble_eq_true rfl⟩ hS (fun q z => Or.inl z) (fun q z => Or.inr z) dX3_act_41 (fun rv_c_21 H_c_21 locs hp_c_21 k_c_21 hS => ?_)
          have kw := kw.then k_c_21 (fun q e _ => e)
          have hK := hK.keep k_c_21 (fun q e => by have e : q = h ∨ q = mc := e; omega)
          obtain ⟨rfl, hw_r_22⟩ := hp_c_21
          refine W.eq (g2 := F0 m 44 ls [.int (iI (-9))]) rfl ?_
          refine x_ret1i hx hb hr hlk hH hS (by omega) (by omega) ?_ dX3_act_44
          first | (exfalso; omega) | exact ⟨(_, _, _, _, _), (by unfold op_act; (repeat (first | with_reducible refine ifp (by omega) ?_ | with_reducible refine ifn (by omega) ?_)); first | rfl | exact comeF_s (by assumption) | exact comeF_n (by assumption) | exact comeF_s (if_pos (by omega)) | exact comeF_n (if_neg (by omega))), rfl, hw_r_22⟩
      · skip
        obtain rfl : th_r_14 = 1 := by omega
        refine xi_iconst hx hb dX3_act_27 ?_
        refine x_ret1i hx hb hr hlk hH hS (by omega) (by omega) ?_ dX3_act_28
        first | (exfalso; omega) | exact ⟨(_, _, _, _, _), (by unfold op_act; (repeat (first | with_reducible refine ifp (by omega) ?_ | with_reducible refine ifn (by omega) ?_)); first | rfl | exact comeF_s (by assumption) | exact comeF_n (by assumption) | exact comeF_s (if_pos (by omega)) | exact comeF_n (if_neg (by omega))), rfl, hw_r_14⟩
    · skip
      refine xi_iconst hx hb dX3_act_15 ?_
      refine lv_goto (tgt := 20) hx hb dX3_act_16 (by decide) ?_
      refine xi_iconst hx hb dX3_act_20 ?_
      have hw_o_23 := hw
      obtain ⟨rb_o_23, hm_o_23, hq_o_23, hr_o_23, hza_o_23, hzc_o_23⟩ := hw_o_23
      refine x_c1V (as := [.int (iI (1)), .int (iI (1))]) (rest := []) S hK hm_o_23 rfl rfl (c_X3_start l G H0 (mc) (th) (ac) (no) (kn) (cc) (h) (True) (1) (by omega) (by first | assumption | omega) (by first | assumption | omega) (by first | assumption | omega) (by assumption) (by omega) hw) q1180 q1182 qs9 q43 q1183 hdX3_start ⟨by decide, by decide⟩ hl.1 rfl rfl (Nat.le_of_ble_eq_true rfl) ⟨Nat.le_of_ble_eq_true rfl, Nat.le_of_ble_eq_true rfl⟩ hS (fun q e => Or.inl (Or.inl e)) (fun q z => Or.inr z) dX3_act_21 (fun rv_c_24 H_c_24 locs hp_c_24 k_c_24 hS => ?_)
      have kw := kw.then k_c_24 (fun q e _ => Or.inl e)
      have hK := hK.keep k_c_24 (fun q e => by have e : q = h := e; omega)
      obtain ⟨th_r_25, hth_r_25, rfl, hw_r_25⟩ := hp_c_24
      have hth_r_25 := hth_r_25.elim (fun z => z.2) (fun z => absurd trivial z.1)
      refine W.eq (g2 := F0 m 24 ls [.int (iI (b2i (0 < (th_r_25))))]) rfl ?_
      refine xi_ifb_eq (tgt := 29) hx hb dX3_act_24 (by decide) (fun c_24 => ?_) (fun c_24 => ?_)
      · skip
        obtain rfl : th_r_25 = 0 := by omega
        refine lv_aload_n hx hb dX3_act_29 rfl (lv_at hl 0 rfl) ?_
        refine lv_iload_n hx hb dX3_act_30 rfl (lv_at hl 2 rfl) ?_
        refine lv_aload_n hx hb dX3_act_31 rfl (lv_at hl 0 rfl) ?_
        have hw_o_26 := hw_r_25
        obtain ⟨rb_o_26, hm_o_26, hq_o_26, hr_o_26, hza_o_26, hzc_o_26⟩ := hw_o_26
        refine x_get S hK in_X3 hm_o_26 rfl 4 (by decide) q1152 (fun x h => h) rfl dX3_act_32 ?_
        refine lv_iload_n hx hb dX3_act_35 rfl (lv_at hl 1 rfl) ?_
        refine x_aald S hK 3 rfl rfl hq_o_26 (by omega) (by omega) rfl dX3_act_36 ?_
        have hr_w_27 := hr_o_26 (k).toNat (by omega)
        have hbw_w_27 := hbc (k).toNat (by omega)
        refine lv_iload_n hx hb dX3_act_37 rfl (lv_at hl 3 rfl) ?_
        refine x_c1S (as := [.ref ((rb_o_26) ((k).toNat)), .int (iI (how))]) (rest := [.int (iI (j)), .ref (h)]) S hK (c_X3_become l G H_c_24 (cc (k).toNat) ((rb_o_26) ((k).toNat)) (how) (by omega) (by first | assumption | (apply hbc; omega)) hr_w_27) q1245 q1246 q43 q1247 hdX3_become ⟨by decide, by decide⟩ hl.1 rfl rfl (Nat.le_of_ble_eq_true rfl) ⟨Nat.le_of_ble_eq_true rfl, Nat.le_of_ble_eq_true rfl⟩ hS (fun _ z => z.elim) (fun q z => Or.inr z) dX3_act_38 (fun rv_c_28 H_c_28 locs hp_c_28 k_c_28 hS => ?_)
        have kw := kw.then k_c_28 (fun q z _ => z.elim)
        have hK := hK.ext k_c_28
        have hw_r_25 := hw_r_25.ext k_c_28
        have hm_o_26 := hm_o_26.ext k_c_28
        have hq_o_26 := hq_o_26.ext k_c_28
        have hr_o_26 := hr_o_26.ext k_c_28
        have hr_w_27 := hr_w_27.ext k_c_28
        rcases hp_c_28 with ⟨r_r_29, a_r_29, e_r_29, rfl, hq_r_29⟩ | ⟨e_r_29, rfl⟩
        · skip
          refine W.eq (g2 := F0 m 41 ls [.ref (a_r_29), .int (iI (j)), .ref (h)]) rfl ?_
          refine x_c1V (as := [.int (iI (j)), .ref (a_r_29)]) (rest := []) S hK hm_o_26 rfl rfl (c_X3_come l G H_c_28 (mc) (0) (ac) (no) (kn) (cc) (r_r_29) (h) (j) (a_r_29) (by omega) (by first | assumption | omega) (by first | assumption | omega) (by first | assumption | omega) (by assumption) (by omega) (by exact okR_b (becomeR_ok (hok (k).toNat (by omega)) (by assumption))) hw_r_25 hq_r_29) q1190 q1192 qs11 q43 q1193 hdX3_come ⟨by decide, by decide⟩ hl.1 rfl rfl (Nat.le_of_ble_eq_true rfl) ⟨Nat.le_of_ble_eq_true rfl, Nat.le_of_ble_eq_true rfl⟩ hS (fun q z => Or.inl z) (fun q z => Or.inr z) dX3_act_41 (fun rv_c_30 H_c_30 locs hp_c_30 k_c_30 hS => ?_)
          have kw := kw.then k_c_30 (fun q e _ => e)
          have hq_r_29 := hq_r_29.keep k_c_30 (fun z => z.elim (Ne.symm (ne_oa hK rfl rfl hm_o_26 hq_r_29)) (ne_len hq_r_29 hq_o_26 (Nat.ne_of_beq_eq_false rfl)))
          have hK := hK.keep k_c_30 (fun q e => by have e : q = h ∨ q = mc := e; omega)
          obtain ⟨rfl, hw_r_31⟩ := hp_c_30
          refine W.eq (g2 := F0 m 44 ls [.int (iI (b2i (¬ alikeR ((cc) (j).toNat) (r_r_29))))]) rfl ?_
          refine x_ret1i hx hb hr hlk hH hS (by omega) (by omega) ?_ dX3_act_44
          first | (exfalso; omega) | exact ⟨(_, _, _, _, _), (by unfold op_act; (repeat (first | with_reducible refine ifp (by omega) ?_ | with_reducible refine ifn (by omega) ?_)); first | rfl | exact comeF_s (by assumption) | exact comeF_n (by assumption) | exact comeF_s (if_pos (by omega)) | exact comeF_n (if_neg (by omega))), rfl, hw_r_31⟩
        · skip
          refine W.eq (g2 := F0 m 41 ls [.null, .int (iI (j)), .ref (h)]) rfl ?_
          refine x_c1V (as := [.int (iI (j)), .null]) (rest := []) S hK hm_o_26 rfl rfl (c_X3_comeN l G H_c_28 (mc) (0) (ac) (no) (kn) (cc) (h) (j) (by omega) (by first | assumption | omega) (by first | assumption | omega) (by first | assumption | omega) (by assumption) hw_r_25) q1190 q1192 qs11 q43 q1193 hdX3_come ⟨by decide, by decide⟩ hl.1 rfl rfl (Nat.le_of_ble_eq_true rfl) ⟨Nat.le_of_ble_eq_true rfl, Nat.le_of_ble_eq_true rfl⟩ hS (fun q z => Or.inl z) (fun q z => Or.inr z) dX3_act_41 (fun rv_c_32 H_c_32 locs hp_c_32 k_c_32 hS => ?_)
          have kw := kw.then k_c_32 (fun q e _ => e)
          have hK := hK.keep k_c_32 (fun q e => by have e : q = h ∨ q = mc := e; omega)
          obtain ⟨rfl, hw_r_33⟩ := hp_c_32
          refine W.eq (g2 := F0 m 44 ls [.int (iI (-9))]) rfl ?_
          refine x_ret1i hx hb hr hlk hH hS (by omega) (by omega) ?_ dX3_act_44
          first | (exfalso; omega) | exact ⟨(_, _, _, _, _), (by unfold op_act; (repeat (first | with_reducible refine ifp (by omega) ?_ | with_reducible refine ifn (by omega) ?_)); first | rfl | exact comeF_s (by assumption) | exact comeF_n (by assumption) | exact comeF_s (if_pos (by omega)) | exact comeF_n (if_neg (by omega))), rfl, hw_r_33⟩
      · skip
        obtain rfl : th_r_25 = 1 := by omega
        refine xi_iconst hx hb dX3_act_27 ?_
        refine x_ret1i hx hb hr hlk hH hS (by omega) (by omega) ?_ dX3_act_28
        first | (exfalso; omega) | exact ⟨(_, _, _, _, _), (by unfold op_act; (repeat (first | with_reducible refine ifp (by omega) ?_ | with_reducible refine ifn (by omega) ?_)); first | rfl | exact comeF_s (by assumption) | exact comeF_n (by assumption) | exact comeF_s (if_pos (by omega)) | exact comeF_n (if_neg (by omega))), rfl, hw_r_25⟩

theorem hpX3_root : plainFor yX3_root = true := by decide +kernel
theorem hdX3_root : nMH yX3_root 2 := by decide +kernel
set_option maxHeartbeats 4000000 in
theorem c_X3_root (l : Launch) (G : GG) (H0 : Heap) (mc : Nat) (th : Int) (ac : Int) (no : Int) (kn : Int) (cc : Nat → Row) (h : Nat) (k : Int) (j : Int) (r_k : -2147483648 ≤ k ∧ k < 2147483648) (r_j : -2147483648 ≤ j ∧ j < 2147483648) (hac : 0 ≤ ac ∧ ac ≤ 1000) (hno : 0 ≤ no ∧ no ≤ 1000) (hkn : 0 ≤ kn ∧ kn ≤ 1000) (hok : ∀ k : Nat, k < 8 → okR (cc k)) (hw : MW G (h) (mc) (th) (ac) (no) (kn) (cc) H0) : Ct1 l G yX3_root cX3_root 3 (Option.some Jvm.ClassFile.FieldType.int) 6 1 3 137 [.ref (h), .int (iI (k)), .int (iI (j))] H0 (fun q => q = h ∨ q = mc) (fun (rv : Option Value) (H1 : Heap) => ∃ z : Res, op_act ac no cc k j 1 = z ∧ rv = some (.int (iI z.2.1)) ∧ MW G h mc z.1 z.2.2.1 z.2.2.2.1 kn z.2.2.2.2 H1) := by
  refine Ct1.start hpX3_root (Nat.le_of_ble_eq_true rfl) ?_
  intro p e s m below meth c ls hx hb hr S hlk hname hH hK hS hl
  have hl : lv_has ls 3 [(0, .ref (h)), (1, .int (iI (k))), (2, .int (iI (j)))] := hl
  have hbc : ∀ k : Nat, k < 8 → bRow (cc k) := fun k h => okR_b (hok k h)
  have kw : Keep (fun q => q = h ∨ q = mc) H0 H0 := Keep.rf
  have hz0 := hK.2.2.1
  refine lv_aload_n hx hb dX3_root_0 rfl (lv_at hl 0 rfl) ?_
  refine lv_iload_n hx hb dX3_root_1 rfl (lv_at hl 1 rfl) ?_
  refine lv_iload_n hx hb dX3_root_2 rfl (lv_at hl 2 rfl) ?_
  refine xi_iconst hx hb dX3_root_3 ?_
  have hw_o_1 := hw
  obtain ⟨rb_o_1, hm_o_1, hq_o_1, hr_o_1, hza_o_1, hzc_o_1⟩ := hw_o_1
  refine x_c1V (as := [.int (iI (k)), .int (iI (j)), .int (iI (1))]) (rest := []) S hK hm_o_1 rfl rfl (c_X3_act l G H0 (mc) (th) (ac) (no) (kn) (cc) (h) (k) (j) (1) (by omega) (by omega) (by omega) (by first | assumption | omega) (by first | assumption | omega) (by first | assumption | omega) (by assumption) hw) q1241 q1243 qs13 q43 q1244 hdX3_act ⟨by decide, by decide⟩ hl.1 rfl rfl (Nat.le_of_ble_eq_true rfl) ⟨Nat.le_of_ble_eq_true rfl, Nat.le_of_ble_eq_true rfl⟩ hS (fun q z => Or.inl z) (fun q z => Or.inr z) dX3_root_4 (fun rv_c_2 H_c_2 locs hp_c_2 k_c_2 hS => ?_)
  have kw := kw.then k_c_2 (fun q e _ => e)
  have hK := hK.keep k_c_2 (fun q e => by have e : q = h ∨ q = mc := e; omega)
  obtain ⟨z_r_3, hz_r_3, rfl, hw_r_3⟩ := hp_c_2
  refine W.eq (g2 := F0 m 7 ls [.int (iI (z_r_3.2.1))]) rfl ?_
  refine x_ret1i hx hb hr hlk hH hS (by omega) (by omega) ?_ dX3_root_7
  exact ⟨z_r_3, hz_r_3, rfl, hw_r_3⟩

theorem hpX3_cube : plainFor yX3_cube = true := by decide +kernel
theorem hdX3_cube : nMH yX3_cube 2 := by decide +kernel
set_option maxHeartbeats 4000000 in
theorem c_X3_cube (l : Launch) (G : GG) (H0 : Heap) (mc : Nat) (th : Int) (ac : Int) (no : Int) (kn : Int) (cc : Nat → Row) (h : Nat) (k : Int) (j : Int) (r_k : -2147483648 ≤ k ∧ k < 2147483648) (r_j : -2147483648 ≤ j ∧ j < 2147483648) (hac : 0 ≤ ac ∧ ac ≤ 1000) (hno : 0 ≤ no ∧ no ≤ 1000) (hkn : 0 ≤ kn ∧ kn ≤ 1000) (hok : ∀ k : Nat, k < 8 → okR (cc k)) (hw : MW G (h) (mc) (th) (ac) (no) (kn) (cc) H0) : Ct1 l G yX3_cube cX3_cube 3 (Option.some Jvm.ClassFile.FieldType.int) 6 1 3 137 [.ref (h), .int (iI (k)), .int (iI (j))] H0 (fun q => q = h ∨ q = mc) (fun (rv : Option Value) (H1 : Heap) => ∃ z : Res, op_act ac no cc k j 2 = z ∧ rv = some (.int (iI z.2.1)) ∧ MW G h mc z.1 z.2.2.1 z.2.2.2.1 kn z.2.2.2.2 H1) := by
  refine Ct1.start hpX3_cube (Nat.le_of_ble_eq_true rfl) ?_
  intro p e s m below meth c ls hx hb hr S hlk hname hH hK hS hl
  have hl : lv_has ls 3 [(0, .ref (h)), (1, .int (iI (k))), (2, .int (iI (j)))] := hl
  have hbc : ∀ k : Nat, k < 8 → bRow (cc k) := fun k h => okR_b (hok k h)
  have kw : Keep (fun q => q = h ∨ q = mc) H0 H0 := Keep.rf
  have hz0 := hK.2.2.1
  refine lv_aload_n hx hb dX3_cube_0 rfl (lv_at hl 0 rfl) ?_
  refine lv_iload_n hx hb dX3_cube_1 rfl (lv_at hl 1 rfl) ?_
  refine lv_iload_n hx hb dX3_cube_2 rfl (lv_at hl 2 rfl) ?_
  refine xi_iconst hx hb dX3_cube_3 ?_
  have hw_o_1 := hw
  obtain ⟨rb_o_1, hm_o_1, hq_o_1, hr_o_1, hza_o_1, hzc_o_1⟩ := hw_o_1
  refine x_c1V (as := [.int (iI (k)), .int (iI (j)), .int (iI (2))]) (rest := []) S hK hm_o_1 rfl rfl (c_X3_act l G H0 (mc) (th) (ac) (no) (kn) (cc) (h) (k) (j) (2) (by omega) (by omega) (by omega) (by first | assumption | omega) (by first | assumption | omega) (by first | assumption | omega) (by assumption) hw) q1241 q1243 qs13 q43 q1244 hdX3_act ⟨by decide, by decide⟩ hl.1 rfl rfl (Nat.le_of_ble_eq_true rfl) ⟨Nat.le_of_ble_eq_true rfl, Nat.le_of_ble_eq_true rfl⟩ hS (fun q z => Or.inl z) (fun q z => Or.inr z) dX3_cube_4 (fun rv_c_2 H_c_2 locs hp_c_2 k_c_2 hS => ?_)
  have kw := kw.then k_c_2 (fun q e _ => e)
  have hK := hK.keep k_c_2 (fun q e => by have e : q = h ∨ q = mc := e; omega)
  obtain ⟨z_r_3, hz_r_3, rfl, hw_r_3⟩ := hp_c_2
  refine W.eq (g2 := F0 m 7 ls [.int (iI (z_r_3.2.1))]) rfl ?_
  refine x_ret1i hx hb hr hlk hH hS (by omega) (by omega) ?_ dX3_cube_7
  exact ⟨z_r_3, hz_r_3, rfl, hw_r_3⟩

theorem hpX3_twice : plainFor yX3_twice = true := by decide +kernel
theorem hdX3_twice : nMH yX3_twice 2 := by decide +kernel
set_option maxHeartbeats 4000000 in
theorem c_X3_twice (l : Launch) (G : GG) (H0 : Heap) (mc : Nat) (th : Int) (ac : Int) (no : Int) (kn : Int) (cc : Nat → Row) (h : Nat) (k : Int) (j : Int) (r_k : -2147483648 ≤ k ∧ k < 2147483648) (r_j : -2147483648 ≤ j ∧ j < 2147483648) (hac : 0 ≤ ac ∧ ac ≤ 1000) (hno : 0 ≤ no ∧ no ≤ 1000) (hkn : 0 ≤ kn ∧ kn ≤ 1000) (hok : ∀ k : Nat, k < 8 → okR (cc k)) (hw : MW G (h) (mc) (th) (ac) (no) (kn) (cc) H0) : Ct1 l G yX3_twice cX3_twice 3 (Option.some Jvm.ClassFile.FieldType.int) 6 1 3 137 [.ref (h), .int (iI (k)), .int (iI (j))] H0 (fun q => q = h ∨ q = mc) (fun (rv : Option Value) (H1 : Heap) => ∃ z : Res, op_act ac no cc k j 3 = z ∧ rv = some (.int (iI z.2.1)) ∧ MW G h mc z.1 z.2.2.1 z.2.2.2.1 kn z.2.2.2.2 H1) := by
  refine Ct1.start hpX3_twice (Nat.le_of_ble_eq_true rfl) ?_
  intro p e s m below meth c ls hx hb hr S hlk hname hH hK hS hl
  have hl : lv_has ls 3 [(0, .ref (h)), (1, .int (iI (k))), (2, .int (iI (j)))] := hl
  have hbc : ∀ k : Nat, k < 8 → bRow (cc k) := fun k h => okR_b (hok k h)
  have kw : Keep (fun q => q = h ∨ q = mc) H0 H0 := Keep.rf
  have hz0 := hK.2.2.1
  refine lv_aload_n hx hb dX3_twice_0 rfl (lv_at hl 0 rfl) ?_
  refine lv_iload_n hx hb dX3_twice_1 rfl (lv_at hl 1 rfl) ?_
  refine lv_iload_n hx hb dX3_twice_2 rfl (lv_at hl 2 rfl) ?_
  refine xi_iconst hx hb dX3_twice_3 ?_
  have hw_o_1 := hw
  obtain ⟨rb_o_1, hm_o_1, hq_o_1, hr_o_1, hza_o_1, hzc_o_1⟩ := hw_o_1
  refine x_c1V (as := [.int (iI (k)), .int (iI (j)), .int (iI (3))]) (rest := []) S hK hm_o_1 rfl rfl (c_X3_act l G H0 (mc) (th) (ac) (no) (kn) (cc) (h) (k) (j) (3) (by omega) (by omega) (by omega) (by first | assumption | omega) (by first | assumption | omega) (by first | assumption | omega) (by assumption) hw) q1241 q1243 qs13 q43 q1244 hdX3_act ⟨by decide, by decide⟩ hl.1 rfl rfl (Nat.le_of_ble_eq_true rfl) ⟨Nat.le_of_ble_eq_true rfl, Nat.le_of_ble_eq_true rfl⟩ hS (fun q z => Or.inl z) (fun q z => Or.inr z) dX3_twice_4 (fun rv_c_2 H_c_2 locs hp_c_2 k_c_2 hS => ?_)
  have kw := kw.then k_c_2 (fun q e _ => e)
  have hK := hK.keep k_c_2 (fun q e => by have e : q = h ∨ q = mc := e; omega)
  obtain ⟨z_r_3, hz_r_3, rfl, hw_r_3⟩ := hp_c_2
  refine W.eq (g2 := F0 m 7 ls [.int (iI (z_r_3.2.1))]) rfl ?_
  refine x_ret1i hx hb hr hlk hH hS (by omega) (by omega) ?_ dX3_twice_7
  exact ⟨z_r_3, hz_r_3, rfl, hw_r_3⟩

theorem hpX3_half : plainFor yX3_half = true := by decide +kernel
theorem hdX3_half : nMH yX3_half 2 := by decide +kernel
set_option maxHeartbeats 4000000 in
theorem c_X3_half (l : Launch) (G : GG) (H0 : Heap) (mc : Nat) (th : Int) (ac : Int) (no : Int) (kn : Int) (cc : Nat → Row) (h : Nat) (k : Int) (j : Int) (r_k : -2147483648 ≤ k ∧ k < 2147483648) (r_j : -2147483648 ≤ j ∧ j < 2147483648) (hac : 0 ≤ ac ∧ ac ≤ 1000) (hno : 0 ≤ no ∧ no ≤ 1000) (hkn : 0 ≤ kn ∧ kn ≤ 1000) (hok : ∀ k : Nat, k < 8 → okR (cc k)) (hw : MW G (h) (mc) (th) (ac) (no) (kn) (cc) H0) : Ct1 l G yX3_half cX3_half 3 (Option.some Jvm.ClassFile.FieldType.int) 6 1 3 137 [.ref (h), .int (iI (k)), .int (iI (j))] H0 (fun q => q = h ∨ q = mc) (fun (rv : Option Value) (H1 : Heap) => ∃ z : Res, op_act ac no cc k j 4 = z ∧ rv = some (.int (iI z.2.1)) ∧ MW G h mc z.1 z.2.2.1 z.2.2.2.1 kn z.2.2.2.2 H1) := by
  refine Ct1.start hpX3_half (Nat.le_of_ble_eq_true rfl) ?_
  intro p e s m below meth c ls hx hb hr S hlk hname hH hK hS hl
  have hl : lv_has ls 3 [(0, .ref (h)), (1, .int (iI (k))), (2, .int (iI (j)))] := hl
  have hbc : ∀ k : Nat, k < 8 → bRow (cc k) := fun k h => okR_b (hok k h)
  have kw : Keep (fun q => q = h ∨ q = mc) H0 H0 := Keep.rf
  have hz0 := hK.2.2.1
  refine lv_aload_n hx hb dX3_half_0 rfl (lv_at hl 0 rfl) ?_
  refine lv_iload_n hx hb dX3_half_1 rfl (lv_at hl 1 rfl) ?_
  refine lv_iload_n hx hb dX3_half_2 rfl (lv_at hl 2 rfl) ?_
  refine xi_iconst hx hb dX3_half_3 ?_
  have hw_o_1 := hw
  obtain ⟨rb_o_1, hm_o_1, hq_o_1, hr_o_1, hza_o_1, hzc_o_1⟩ := hw_o_1
  refine x_c1V (as := [.int (iI (k)), .int (iI (j)), .int (iI (4))]) (rest := []) S hK hm_o_1 rfl rfl (c_X3_act l G H0 (mc) (th) (ac) (no) (kn) (cc) (h) (k) (j) (4) (by omega) (by omega) (by omega) (by first | assumption | omega) (by first | assumption | omega) (by first | assumption | omega) (by assumption) hw) q1241 q1243 qs13 q43 q1244 hdX3_act ⟨by decide, by decide⟩ hl.1 rfl rfl (Nat.le_of_ble_eq_true rfl) ⟨Nat.le_of_ble_eq_true rfl, Nat.le_of_ble_eq_true rfl⟩ hS (fun q z => Or.inl z) (fun q z => Or.inr z) dX3_half_4 (fun rv_c_2 H_c_2 locs hp_c_2 k_c_2 hS => ?_)
  have kw := kw.then k_c_2 (fun q e _ => e)
  have hK := hK.keep k_c_2 (fun q e => by have e : q = h ∨ q = mc := e; omega)
  obtain ⟨z_r_3, hz_r_3, rfl, hw_r_3⟩ := hp_c_2
  refine W.eq (g2 := F0 m 7 ls [.int (iI (z_r_3.2.1))]) rfl ?_
  refine x_ret1i hx hb hr hlk hH hS (by omega) (by omega) ?_ dX3_half_7
  exact ⟨z_r_3, hz_r_3, rfl, hw_r_3⟩

theorem hpX3_eightfold : plainFor yX3_eightfold = true := by decide +kernel
theorem hdX3_eightfold : nMH yX3_eightfold 2 := by decide +kernel
set_option maxHeartbeats 4000000 in
theorem c_X3_eightfold (l : Launch) (G : GG) (H0 : Heap) (mc : Nat) (th : Int) (ac : Int) (no : Int) (kn : Int) (cc : Nat → Row) (h : Nat) (k : Int) (j : Int) (r_k : -2147483648 ≤ k ∧ k < 2147483648) (r_j : -2147483648 ≤ j ∧ j < 2147483648) (hac : 0 ≤ ac ∧ ac ≤ 1000) (hno : 0 ≤ no ∧ no ≤ 1000) (hkn : 0 ≤ kn ∧ kn ≤ 1000) (hok : ∀ k : Nat, k < 8 → okR (cc k)) (hw : MW G (h) (mc) (th) (ac) (no) (kn) (cc) H0) : Ct1 l G yX3_eightfold cX3_eightfold 3 (Option.some Jvm.ClassFile.FieldType.int) 6 1 3 137 [.ref (h), .int (iI (k)), .int (iI (j))] H0 (fun q => q = h ∨ q = mc) (fun (rv : Option Value) (H1 : Heap) => ∃ z : Res, op_act ac no cc k j 5 = z ∧ rv = some (.int (iI z.2.1)) ∧ MW G h mc z.1 z.2.2.1 z.2.2.2.1 kn z.2.2.2.2 H1) := by
  refine Ct1.start hpX3_eightfold (Nat.le_of_ble_eq_true rfl) ?_
  intro p e s m below meth c ls hx hb hr S hlk hname hH hK hS hl
  have hl : lv_has ls 3 [(0, .ref (h)), (1, .int (iI (k))), (2, .int (iI (j)))] := hl
  have hbc : ∀ k : Nat, k < 8 → bRow (cc k) := fun k h => okR_b (hok k h)
  have kw : Keep (fun q => q = h ∨ q = mc) H0 H0 := Keep.rf
  have hz0 := hK.2.2.1
  refine lv_aload_n hx hb dX3_eightfold_0 rfl (lv_at hl 0 rfl) ?_
  refine lv_iload_n hx hb dX3_eightfold_1 rfl (lv_at hl 1 rfl) ?_
  refine lv_iload_n hx hb dX3_eightfold_2 rfl (lv_at hl 2 rfl) ?_
  refine xi_iconst hx hb dX3_eightfold_3 ?_
  have hw_o_1 := hw
  obtain ⟨rb_o_1, hm_o_1, hq_o_1, hr_o_1, hza_o_1, hzc_o_1⟩ := hw_o_1
  refine x_c1V (as := [.int (iI (k)), .int (iI (j)), .int (iI (5))]) (rest := []) S hK hm_o_1 rfl rfl (c_X3_act l G H0 (mc) (th) (ac) (no) (kn) (cc) (h) (k) (j) (5) (by omega) (by omega) (by omega) (by first | assumption | omega) (by first | assumption | omega) (by first | assumption | omega) (by assumption) hw) q1241 q1243 qs13 q43 q1244 hdX3_act ⟨by decide, by decide⟩ hl.1 rfl rfl (Nat.le_of_ble_eq_true rfl) ⟨Nat.le_of_ble_eq_true rfl, Nat.le_of_ble_eq_true rfl⟩ hS (fun q z => Or.inl z) (fun q z => Or.inr z) dX3_eightfold_4 (fun rv_c_2 H_c_2 locs hp_c_2 k_c_2 hS => ?_)
  have kw := kw.then k_c_2 (fun q e _ => e)
  have hK := hK.keep k_c_2 (fun q e => by have e : q = h ∨ q = mc := e; omega)
  obtain ⟨z_r_3, hz_r_3, rfl, hw_r_3⟩ := hp_c_2
  refine W.eq (g2 := F0 m 7 ls [.int (iI (z_r_3.2.1))]) rfl ?_
  refine x_ret1i hx hb hr hlk hH hS (by omega) (by omega) ?_ dX3_eightfold_7
  exact ⟨z_r_3, hz_r_3, rfl, hw_r_3⟩

theorem hpX3_kind : plainFor yX3_kind = true := by decide +kernel
theorem hdX3_kind : nMH yX3_kind 1 := by decide +kernel
set_option maxHeartbeats 4000000 in
theorem c_X3_kind (l : Launch) (G : GG) (H0 : Heap) (mc : Nat) (th : Int) (ac : Int) (no : Int) (kn : Int) (cc : Nat → Row) (h : Nat) (k : Int) (r_k : -2147483648 ≤ k ∧ k < 2147483648) (hac : 0 ≤ ac ∧ ac ≤ 1000) (hno : 0 ≤ no ∧ no ≤ 1000) (hkn : 0 ≤ kn ∧ kn ≤ 1000) (hok : ∀ k : Nat, k < 8 → okR (cc k)) (hw : MW G (h) (mc) (th) (ac) (no) (kn) (cc) H0) : Ct1 l G yX3_kind cX3_kind 2 (Option.some Jvm.ClassFile.FieldType.int) 2 0 0 45 [.ref (h), .int (iI (k))] H0 (fun q => q = h ∨ q = mc) (fun (rv : Option Value) (H1 : Heap) => ∃ z : Res, op_kind ac no cc (k) = z ∧ rv = some (.int (iI z.2.1)) ∧ MW G h mc z.1 z.2.2.1 z.2.2.2.1 kn z.2.2.2.2 H1) := by
  refine Ct1.start hpX3_kind (Nat.le_of_ble_eq_true rfl) ?_
  intro p e s m below meth c ls hx hb hr S hlk hname hH hK hS hl
  have hl : lv_has ls 2 [(0, .ref (h)), (1, .int (iI (k)))] := hl
  have hbc : ∀ k : Nat, k < 8 → bRow (cc k) := fun k h => okR_b (hok k h)
  have kw : Keep (fun q => q = h ∨ q = mc) H0 H0 := Keep.rf
  have hz0 := hK.2.2.1
  refine lv_aload_n hx hb dX3_kind_0 rfl (lv_at hl 0 rfl) ?_
  refine lv_iload_n hx hb dX3_kind_1 rfl (lv_at hl 1 rfl) ?_
  refine x_c0S (as := [.int (iI (k))]) (rest := [.ref (h)]) S hK (c_X3_isNoCell l G H0 (k) (by omega) ) q1173 q1174 q43 q1175 hdX3_isNoCell ⟨by decide, by decide⟩ hl.1 rfl rfl (Nat.le_of_ble_eq_true rfl) ⟨Nat.le_of_ble_eq_true rfl, Nat.le_of_ble_eq_true rfl⟩ dX3_kind_2 ?_
  refine xi_iconst hx hb dX3_kind_5 ?_
  have hw_o_1 := hw
  obtain ⟨rb_o_1, hm_o_1, hq_o_1, hr_o_1, hza_o_1, hzc_o_1⟩ := hw_o_1
  refine x_c1V (as := [.int (iI (b2i (¬ (0 ≤ (k) ∧ (k) ≤ 7)))), .int (iI (1))]) (rest := []) S hK hm_o_1 rfl rfl (c_X3_start l G H0 (mc) (th) (ac) (no) (kn) (cc) (h) (¬ (0 ≤ (k) ∧ (k) ≤ 7)) (1) (by omega) (by first | assumption | omega) (by first | assumption | omega) (by first | assumption | omega) (by assumption) (by omega) hw) q1180 q1182 qs9 q43 q1183 hdX3_start ⟨by decide, by decide⟩ hl.1 rfl rfl (Nat.le_of_ble_eq_true rfl) ⟨Nat.le_of_ble_eq_true rfl, Nat.le_of_ble_eq_true rfl⟩ hS (fun q e => Or.inl (Or.inl e)) (fun q z => Or.inr z) dX3_kind_6 (fun rv_c_2 H_c_2 locs hp_c_2 k_c_2 hS => ?_)
  have kw := kw.then k_c_2 (fun q e _ => Or.inl e)
  have hK := hK.keep k_c_2 (fun q e => by have e : q = h := e; omega)
  obtain ⟨th_r_3, hth_r_3, rfl, hw_r_3⟩ := hp_c_2
  refine W.eq (g2 := F0 m 9 ls [.int (iI (b2i (0 < (th_r_3))))]) rfl ?_
  refine xi_ifb_eq (tgt := 16) hx hb dX3_kind_9 (by decide) (fun c_9 => ?_) (fun c_9 => ?_)
  · skip
    obtain rfl : th_r_3 = 0 := by omega
    refine lv_aload_n hx hb dX3_kind_16 rfl (lv_at hl 0 rfl) ?_
    have hw_o_4 := hw_r_3
    obtain ⟨rb_o_4, hm_o_4, hq_o_4, hr_o_4, hza_o_4, hzc_o_4⟩ := hw_o_4
    refine x_get S hK in_X3 hm_o_4 rfl 4 (by decide) q1152 (fun x h => h) rfl dX3_kind_17 ?_
    refine lv_iload_n hx hb dX3_kind_20 rfl (lv_at hl 1 rfl) ?_
    refine x_aald S hK 3 rfl rfl hq_o_4 (by omega) (by omega) rfl dX3_kind_21 ?_
    have hr_w_5 := hr_o_4 (k).toNat (by omega)
    have hbw_w_5 := hbc (k).toNat (by omega)
    refine xi_iconst hx hb dX3_kind_22 ?_
    refine x_iald (w := (cc (k).toNat).1) S hK hr_w_5 (by omega) (by decide) rfl dX3_kind_23 ?_
    refine x_ret1i hx hb hr hlk hH hS (by omega) (by omega) ?_ dX3_kind_24
    first | (exfalso; omega) | exact ⟨(_, _, _, _, _), (by unfold op_kind; (repeat (first | with_reducible refine ifp (by omega) ?_ | with_reducible refine ifn (by omega) ?_)); first | rfl | exact comeF_s (by assumption) | exact comeF_n (by assumption) | exact comeF_s (if_pos (by omega)) | exact comeF_n (if_neg (by omega))), rfl, ⟨rb_o_4, hm_o_4, hq_o_4, hr_o_4, hza_o_4, hzc_o_4⟩⟩
  · skip
    obtain rfl : th_r_3 = 1 := by omega
    refine xi_iconst hx hb dX3_kind_12 ?_
    refine lv_goto (tgt := 24) hx hb dX3_kind_13 (by decide) ?_
    refine x_ret1i hx hb hr hlk hH hS (by omega) (by omega) ?_ dX3_kind_24
    first | (exfalso; omega) | exact ⟨(_, _, _, _, _), (by unfold op_kind; (repeat (first | with_reducible refine ifp (by omega) ?_ | with_reducible refine ifn (by omega) ?_)); first | rfl | exact comeF_s (by assumption) | exact comeF_n (by assumption) | exact comeF_s (if_pos (by omega)) | exact comeF_n (if_neg (by omega))), rfl, hw_r_3⟩

theorem hpX3_of : plainFor yX3_of = true := by decide +kernel
theorem hdX3_of : nMH yX3_of 1 := by decide +kernel
set_option maxHeartbeats 4000000 in
theorem c_X3_of (l : Launch) (G : GG) (H0 : Heap) (mc : Nat) (th : Int) (ac : Int) (no : Int) (kn : Int) (cc : Nat → Row) (h : Nat) (k : Int) (r_k : -2147483648 ≤ k ∧ k < 2147483648) (hac : 0 ≤ ac ∧ ac ≤ 1000) (hno : 0 ≤ no ∧ no ≤ 1000) (hkn : 0 ≤ kn ∧ kn ≤ 1000) (hok : ∀ k : Nat, k < 8 → okR (cc k)) (hw : MW G (h) (mc) (th) (ac) (no) (kn) (cc) H0) : Ct1 l G yX3_of cX3_of 2 (Option.some Jvm.ClassFile.FieldType.int) 2 0 0 45 [.ref (h), .int (iI (k))] H0 (fun q => q = h ∨ q = mc) (fun (rv : Option Value) (H1 : Heap) => ∃ z : Res, op_of ac no cc (k) = z ∧ rv = some (.int (iI z.2.1)) ∧ MW G h mc z.1 z.2.2.1 z.2.2.2.1 kn z.2.2.2.2 H1) := by
  refine Ct1.start hpX3_of (Nat.le_of_ble_eq_true rfl) ?_
  intro p e s m below meth c ls hx hb hr S hlk hname hH hK hS hl
  have hl : lv_has ls 2 [(0, .ref (h)), (1, .int (iI (k)))] := hl
  have hbc : ∀ k : Nat, k < 8 → bRow (cc k) := fun k h => okR_b (hok k h)
  have kw : Keep (fun q => q = h ∨ q = mc) H0 H0 := Keep.rf
  have hz0 := hK.2.2.1
  refine lv_aload_n hx hb dX3_of_0 rfl (lv_at hl 0 rfl) ?_
  refine lv_iload_n hx hb dX3_of_1 rfl (lv_at hl 1 rfl) ?_
  refine x_c0S (as := [.int (iI (k))]) (rest := [.ref (h)]) S hK (c_X3_isNoCell l G H0 (k) (by omega) ) q1173 q1174 q43 q1175 hdX3_isNoCell ⟨by decide, by decide⟩ hl.1 rfl rfl (Nat.le_of_ble_eq_true rfl) ⟨Nat.le_of_ble_eq_true rfl, Nat.le_of_ble_eq_true rfl⟩ dX3_of_2 ?_
  refine xi_iconst hx hb dX3_of_5 ?_
  have hw_o_1 := hw
  obtain ⟨rb_o_1, hm_o_1, hq_o_1, hr_o_1, hza_o_1, hzc_o_1⟩ := hw_o_1
  refine x_c1V (as := [.int (iI (b2i (¬ (0 ≤ (k) ∧ (k) ≤ 7)))), .int (iI (1))]) (rest := []) S hK hm_o_1 rfl rfl (c_X3_start l G H0 (mc) (th) (ac) (no) (kn) (cc) (h) (¬ (0 ≤ (k) ∧ (k) ≤ 7)) (1) (by omega) (by first | assumption | omega) (by first | assumption | omega) (by first | assumption | omega) (by assumption) (by omega) hw) q1180 q1182 qs9 q43 q1183 hdX3_start ⟨by decide, by decide⟩ hl.1 rfl rfl (Nat.le_of_ble_eq_true rfl) ⟨Nat.le_of_ble_eq_true rfl, Nat.le_of_ble_eq_true rfl⟩ hS (fun q e => Or.inl (Or.inl e)) (fun q z => Or.inr z) dX3_of_6 (fun rv_c_2 H_c_2 locs hp_c_2 k_c_2 hS => ?_)
  have kw := kw.then k_c_2 (fun q e _ => Or.inl e)
  have hK := hK.keep k_c_2 (fun q e => by have e : q = h := e; omega)
  obtain ⟨th_r_3, hth_r_3, rfl, hw_r_3⟩ := hp_c_2
  refine W.eq (g2 := F0 m 9 ls [.int (iI (b2i (0 < (th_r_3))))]) rfl ?_
  refine xi_ifb_eq (tgt := 16) hx hb dX3_of_9 (by decide) (fun c_9 => ?_) (fun c_9 => ?_)
  · skip
    obtain rfl : th_r_3 = 0 := by omega
    refine lv_aload_n hx hb dX3_of_16 rfl (lv_at hl 0 rfl) ?_
    have hw_o_4 := hw_r_3
    obtain ⟨rb_o_4, hm_o_4, hq_o_4, hr_o_4, hza_o_4, hzc_o_4⟩ := hw_o_4
    refine x_get S hK in_X3 hm_o_4 rfl 4 (by decide) q1152 (fun x h => h) rfl dX3_of_17 ?_
    refine lv_iload_n hx hb dX3_of_20 rfl (lv_at hl 1 rfl) ?_
    refine x_aald S hK 3 rfl rfl hq_o_4 (by omega) (by omega) rfl dX3_of_21 ?_
    have hr_w_5 := hr_o_4 (k).toNat (by omega)
    have hbw_w_5 := hbc (k).toNat (by omega)
    refine x_c0S (as := [.ref ((rb_o_4) ((k).toNat))]) (rest := []) S hK (c_X3_ofTold l G H_c_2 (cc (k).toNat) ((rb_o_4) ((k).toNat)) (by first | assumption | (apply hbc; omega)) hr_w_5) q1315 q1316 q43 q1317 hdX3_ofTold ⟨by decide, by decide⟩ hl.1 rfl rfl (Nat.le_of_ble_eq_true rfl) ⟨Nat.le_of_ble_eq_true rfl, Nat.le_of_ble_eq_true rfl⟩ dX3_of_22 ?_
    refine x_ret1i hx hb hr hlk hH hS (by omega) (by omega) ?_ dX3_of_25
    first | (exfalso; omega) | exact ⟨(_, _, _, _, _), (by unfold op_of; (repeat (first | with_reducible refine ifp (by omega) ?_ | with_reducible refine ifn (by omega) ?_)); first | rfl | exact comeF_s (by assumption) | exact comeF_n (by assumption) | exact comeF_s (if_pos (by omega)) | exact comeF_n (if_neg (by omega))), rfl, ⟨rb_o_4, hm_o_4, hq_o_4, hr_o_4, hza_o_4, hzc_o_4⟩⟩
  · skip
    obtain rfl : th_r_3 = 1 := by omega
    refine xi_iconst hx hb dX3_of_12 ?_
    refine lv_goto (tgt := 25) hx hb dX3_of_13 (by decide) ?_
    refine x_ret1i hx hb hr hlk hH hS (by omega) (by omega) ?_ dX3_of_25
    first | (exfalso; omega) | exact ⟨(_, _, _, _, _), (by unfold op_of; (repeat (first | with_reducible refine ifp (by omega) ?_ | with_reducible refine ifn (by omega) ?_)); first | rfl | exact comeF_s (by assumption) | exact comeF_n (by assumption) | exact comeF_s (if_pos (by omega)) | exact comeF_n (if_neg (by omega))), rfl, hw_r_3⟩

theorem hpX3_isAlike_2 : plainFor yX3_isAlike_2 = true := by decide +kernel
theorem hdX3_isAlike_2 : nMH yX3_isAlike_2 2 := by decide +kernel
set_option maxHeartbeats 4000000 in
theorem c_X3_isAlike_2 (l : Launch) (G : GG) (H0 : Heap) (mc : Nat) (th : Int) (ac : Int) (no : Int) (kn : Int) (cc : Nat → Row) (h : Nat) (i : Int) (j : Int) (r_i : -2147483648 ≤ i ∧ i < 2147483648) (r_j : -2147483648 ≤ j ∧ j < 2147483648) (hac : 0 ≤ ac ∧ ac ≤ 1000) (hno : 0 ≤ no ∧ no ≤ 1000) (hkn : 0 ≤ kn ∧ kn ≤ 1000) (hok : ∀ k : Nat, k < 8 → okR (cc k)) (hw : MW G (h) (mc) (th) (ac) (no) (kn) (cc) H0) : Ct1 l G yX3_isAlike_2 cX3_isAlike_2 3 (Option.some Jvm.ClassFile.FieldType.boolean) 3 0 0 67 [.ref (h), .int (iI (i)), .int (iI (j))] H0 (fun q => q = h ∨ q = mc) (fun (rv : Option Value) (H1 : Heap) => ∃ z : Res, op_isAlike ac no cc (i) (j) = z ∧ rv = some (.int (iI z.2.1)) ∧ MW G h mc z.1 z.2.2.1 z.2.2.2.1 kn z.2.2.2.2 H1) := by
  refine Ct1.start hpX3_isAlike_2 (Nat.le_of_ble_eq_true rfl) ?_
  intro p e s m below meth c ls hx hb hr S hlk hname hH hK hS hl
  have hl : lv_has ls 3 [(0, .ref (h)), (1, .int (iI (i))), (2, .int (iI (j)))] := hl
  have hbc : ∀ k : Nat, k < 8 → bRow (cc k) := fun k h => okR_b (hok k h)
  have kw : Keep (fun q => q = h ∨ q = mc) H0 H0 := Keep.rf
  have hz0 := hK.2.2.1
  refine lv_aload_n hx hb dX3_isAlike_2_0 rfl (lv_at hl 0 rfl) ?_
  refine lv_aload_n hx hb dX3_isAlike_2_1 rfl (lv_at hl 0 rfl) ?_
  refine lv_iload_n hx hb dX3_isAlike_2_2 rfl (lv_at hl 1 rfl) ?_
  refine lv_iload_n hx hb dX3_isAlike_2_3 rfl (lv_at hl 2 rfl) ?_
  have hw_o_1 := hw
  obtain ⟨rb_o_1, hm_o_1, hq_o_1, hr_o_1, hza_o_1, hzc_o_1⟩ := hw_o_1
  refine x_c0V (as := [.int (iI (i)), .int (iI (j))]) (rest := [.ref (h)]) S hK hm_o_1 rfl rfl (c_X3_areNoCells l G H0 (h) (i) (j) (by omega) (by omega) ) q1690 q1692 qs34 q43 q1693 hdX3_areNoCells ⟨by decide, by decide⟩ hl.1 rfl rfl (Nat.le_of_ble_eq_true rfl) ⟨Nat.le_of_ble_eq_true rfl, Nat.le_of_ble_eq_true rfl⟩ dX3_isAlike_2_4 ?_
  refine xi_iconst hx hb dX3_isAlike_2_7 ?_
  refine x_c1V (as := [.int (iI (b2i (¬ (0 ≤ (i) ∧ (i) ≤ 7) ∨ ¬ (0 ≤ (j) ∧ (j) ≤ 7)))), .int (iI (1))]) (rest := []) S hK hm_o_1 rfl rfl (c_X3_start l G H0 (mc) (th) (ac) (no) (kn) (cc) (h) (¬ (0 ≤ (i) ∧ (i) ≤ 7) ∨ ¬ (0 ≤ (j) ∧ (j) ≤ 7)) (1) (by omega) (by first | assumption | omega) (by first | assumption | omega) (by first | assumption | omega) (by assumption) (by omega) hw) q1180 q1182 qs9 q43 q1183 hdX3_start ⟨by decide, by decide⟩ hl.1 rfl rfl (Nat.le_of_ble_eq_true rfl) ⟨Nat.le_of_ble_eq_true rfl, Nat.le_of_ble_eq_true rfl⟩ hS (fun q e => Or.inl (Or.inl e)) (fun q z => Or.inr z) dX3_isAlike_2_8 (fun rv_c_2 H_c_2 locs hp_c_2 k_c_2 hS => ?_)
  have kw := kw.then k_c_2 (fun q e _ => Or.inl e)
  have hK := hK.keep k_c_2 (fun q e => by have e : q = h := e; omega)
  obtain ⟨th_r_3, hth_r_3, rfl, hw_r_3⟩ := hp_c_2
  refine W.eq (g2 := F0 m 11 ls [.int (iI (b2i (0 < (th_r_3))))]) rfl ?_
  refine xi_ifb_ne (tgt := 36) hx hb dX3_isAlike_2_11 (by decide) (fun c_11 => ?_) (fun c_11 => ?_)
  · skip
    obtain rfl : th_r_3 = 1 := by omega
    refine xi_iconst hx hb dX3_isAlike_2_36 ?_
    refine x_ret1z (E := False) hx hb hr hlk hH hS (by omega) (by omega) rfl ?_ dX3_isAlike_2_37
    first | (exfalso; omega) | exact ⟨(_, _, _, _, _), (by unfold op_isAlike; (repeat (first | with_reducible refine ifp (by omega) ?_ | with_reducible refine ifn (by omega) ?_)); first | rfl | exact comeF_s (by assumption) | exact comeF_n (by assumption) | exact comeF_s (if_pos (by omega)) | exact comeF_n (if_neg (by omega))), rfl, hw_r_3⟩
  · skip
    obtain rfl : th_r_3 = 0 := by omega
    refine lv_aload_n hx hb dX3_isAlike_2_14 rfl (lv_at hl 0 rfl) ?_
    have hw_o_4 := hw_r_3
    obtain ⟨rb_o_4, hm_o_4, hq_o_4, hr_o_4, hza_o_4, hzc_o_4⟩ := hw_o_4
    refine x_get S hK in_X3 hm_o_4 rfl 4 (by decide) q1152 (fun x h => h) rfl dX3_isAlike_2_15 ?_
    refine lv_iload_n hx hb dX3_isAlike_2_18 rfl (lv_at hl 1 rfl) ?_
    refine x_aald S hK 3 rfl rfl hq_o_4 (by omega) (by omega) rfl dX3_isAlike_2_19 ?_
    have hr_w_5 := hr_o_4 (i).toNat (by omega)
    have hbw_w_5 := hbc (i).toNat (by omega)
    refine lv_aload_n hx hb dX3_isAlike_2_20 rfl (lv_at hl 0 rfl) ?_
    refine x_get S hK in_X3 hm_o_4 rfl 4 (by decide) q1152 (fun x h => h) rfl dX3_isAlike_2_21 ?_
    refine lv_iload_n hx hb dX3_isAlike_2_24 rfl (lv_at hl 2 rfl) ?_
    refine x_aald S hK 3 rfl rfl hq_o_4 (by omega) (by omega) rfl dX3_isAlike_2_25 ?_
    have hr_w_6 := hr_o_4 (j).toNat (by omega)
    have hbw_w_6 := hbc (j).toNat (by omega)
    refine x_c0S (as := [.ref ((rb_o_4) ((i).toNat)), .ref ((rb_o_4) ((j).toNat))]) (rest := []) S hK (c_X3_isAlike l G H_c_2 (cc (i).toNat) (cc (j).toNat) ((rb_o_4) ((i).toNat)) ((rb_o_4) ((j).toNat)) (by first | assumption | (apply hbc; omega)) (by first | assumption | (apply hbc; omega)) hr_w_5 hr_w_6) q1194 q1195 q43 q1196 hdX3_isAlike ⟨by decide, by decide⟩ hl.1 rfl rfl (Nat.le_of_ble_eq_true rfl) ⟨Nat.le_of_ble_eq_true rfl, Nat.le_of_ble_eq_true rfl⟩ dX3_isAlike_2_26 ?_
    refine xi_ifb_eq (tgt := 36) hx hb dX3_isAlike_2_29 (by decide) (fun c_29 => ?_) (fun c_29 => ?_)
    · skip
      refine xi_iconst hx hb dX3_isAlike_2_36 ?_
      refine x_ret1z (E := False) hx hb hr hlk hH hS (by omega) (by omega) rfl ?_ dX3_isAlike_2_37
      first | (exfalso; omega) | exact ⟨(_, _, _, _, _), (by unfold op_isAlike; (repeat (first | with_reducible refine ifp (by omega) ?_ | with_reducible refine ifn (by omega) ?_)); first | rfl | exact comeF_s (by assumption) | exact comeF_n (by assumption) | exact comeF_s (if_pos (by omega)) | exact comeF_n (if_neg (by omega))), rfl, ⟨rb_o_4, hm_o_4, hq_o_4, hr_o_4, hza_o_4, hzc_o_4⟩⟩
    · skip
      refine xi_iconst hx hb dX3_isAlike_2_32 ?_
      refine lv_goto (tgt := 37) hx hb dX3_isAlike_2_33 (by decide) ?_
      refine x_ret1z (E := True) hx hb hr hlk hH hS (by omega) (by omega) rfl ?_ dX3_isAlike_2_37
      first | (exfalso; omega) | exact ⟨(_, _, _, _, _), (by unfold op_isAlike; (repeat (first | with_reducible refine ifp (by omega) ?_ | with_reducible refine ifn (by omega) ?_)); first | rfl | exact comeF_s (by assumption) | exact comeF_n (by assumption) | exact comeF_s (if_pos (by omega)) | exact comeF_n (if_neg (by omega))), rfl, ⟨rb_o_4, hm_o_4, hq_o_4, hr_o_4, hza_o_4, hzc_o_4⟩⟩

theorem hpX3_isNear_2 : plainFor yX3_isNear_2 = true := by decide +kernel
theorem hdX3_isNear_2 : nMH yX3_isNear_2 2 := by decide +kernel
set_option maxHeartbeats 4000000 in
theorem c_X3_isNear_2 (l : Launch) (G : GG) (H0 : Heap) (mc : Nat) (th : Int) (ac : Int) (no : Int) (kn : Int) (cc : Nat → Row) (h : Nat) (i : Int) (j : Int) (r_i : -2147483648 ≤ i ∧ i < 2147483648) (r_j : -2147483648 ≤ j ∧ j < 2147483648) (hac : 0 ≤ ac ∧ ac ≤ 1000) (hno : 0 ≤ no ∧ no ≤ 1000) (hkn : 0 ≤ kn ∧ kn ≤ 1000) (hok : ∀ k : Nat, k < 8 → okR (cc k)) (hw : MW G (h) (mc) (th) (ac) (no) (kn) (cc) H0) : Ct1 l G yX3_isNear_2 cX3_isNear_2 3 (Option.some Jvm.ClassFile.FieldType.boolean) 3 0 0 67 [.ref (h), .int (iI (i)), .int (iI (j))] H0 (fun q => q = h ∨ q = mc) (fun (rv : Option Value) (H1 : Heap) => ∃ z : Res, op_isNear ac no cc (i) (j) = z ∧ rv = some (.int (iI z.2.1)) ∧ MW G h mc z.1 z.2.2.1 z.2.2.2.1 kn z.2.2.2.2 H1) := by
  refine Ct1.start hpX3_isNear_2 (Nat.le_of_ble_eq_true rfl) ?_
  intro p e s m below meth c ls hx hb hr S hlk hname hH hK hS hl
  have hl : lv_has ls 3 [(0, .ref (h)), (1, .int (iI (i))), (2, .int (iI (j)))] := hl
  have hbc : ∀ k : Nat, k < 8 → bRow (cc k) := fun k h => okR_b (hok k h)
  have kw : Keep (fun q => q = h ∨ q = mc) H0 H0 := Keep.rf
  have hz0 := hK.2.2.1
  refine lv_aload_n hx hb dX3_isNear_2_0 rfl (lv_at hl 0 rfl) ?_
  refine lv_aload_n hx hb dX3_isNear_2_1 rfl (lv_at hl 0 rfl) ?_
  refine lv_iload_n hx hb dX3_isNear_2_2 rfl (lv_at hl 1 rfl) ?_
  refine lv_iload_n hx hb dX3_isNear_2_3 rfl (lv_at hl 2 rfl) ?_
  have hw_o_1 := hw
  obtain ⟨rb_o_1, hm_o_1, hq_o_1, hr_o_1, hza_o_1, hzc_o_1⟩ := hw_o_1
  refine x_c0V (as := [.int (iI (i)), .int (iI (j))]) (rest := [.ref (h)]) S hK hm_o_1 rfl rfl (c_X3_areNoCells l G H0 (h) (i) (j) (by omega) (by omega) ) q1690 q1692 qs34 q43 q1693 hdX3_areNoCells ⟨by decide, by decide⟩ hl.1 rfl rfl (Nat.le_of_ble_eq_true rfl) ⟨Nat.le_of_ble_eq_true rfl, Nat.le_of_ble_eq_true rfl⟩ dX3_isNear_2_4 ?_
  refine xi_iconst hx hb dX3_isNear_2_7 ?_
  refine x_c1V (as := [.int (iI (b2i (¬ (0 ≤ (i) ∧ (i) ≤ 7) ∨ ¬ (0 ≤ (j) ∧ (j) ≤ 7)))), .int (iI (1))]) (rest := []) S hK hm_o_1 rfl rfl (c_X3_start l G H0 (mc) (th) (ac) (no) (kn) (cc) (h) (¬ (0 ≤ (i) ∧ (i) ≤ 7) ∨ ¬ (0 ≤ (j) ∧ (j) ≤ 7)) (1) (by omega) (by first | assumption | omega) (by first | assumption | omega) (by first | assumption | omega) (by assumption) (by omega) hw) q1180 q1182 qs9 q43 q1183 hdX3_start ⟨by decide, by decide⟩ hl.1 rfl rfl (Nat.le_of_ble_eq_true rfl) ⟨Nat.le_of_ble_eq_true rfl, Nat.le_of_ble_eq_true rfl⟩ hS (fun q e => Or.inl (Or.inl e)) (fun q z => Or.inr z) dX3_isNear_2_8 (fun rv_c_2 H_c_2 locs hp_c_2 k_c_2 hS => ?_)
  have kw := kw.then k_c_2 (fun q e _ => Or.inl e)
  have hK := hK.keep k_c_2 (fun q e => by have e : q = h := e; omega)
  obtain ⟨th_r_3, hth_r_3, rfl, hw_r_3⟩ := hp_c_2
  refine W.eq (g2 := F0 m 11 ls [.int (iI (b2i (0 < (th_r_3))))]) rfl ?_
  refine xi_ifb_ne (tgt := 36) hx hb dX3_isNear_2_11 (by decide) (fun c_11 => ?_) (fun c_11 => ?_)
  · skip
    obtain rfl : th_r_3 = 1 := by omega
    refine xi_iconst hx hb dX3_isNear_2_36 ?_
    refine x_ret1z (E := False) hx hb hr hlk hH hS (by omega) (by omega) rfl ?_ dX3_isNear_2_37
    first | (exfalso; omega) | exact ⟨(_, _, _, _, _), (by unfold op_isNear; (repeat (first | with_reducible refine ifp (by omega) ?_ | with_reducible refine ifn (by omega) ?_)); first | rfl | exact comeF_s (by assumption) | exact comeF_n (by assumption) | exact comeF_s (if_pos (by omega)) | exact comeF_n (if_neg (by omega))), rfl, hw_r_3⟩
  · skip
    obtain rfl : th_r_3 = 0 := by omega
    refine lv_aload_n hx hb dX3_isNear_2_14 rfl (lv_at hl 0 rfl) ?_
    have hw_o_4 := hw_r_3
    obtain ⟨rb_o_4, hm_o_4, hq_o_4, hr_o_4, hza_o_4, hzc_o_4⟩ := hw_o_4
    refine x_get S hK in_X3 hm_o_4 rfl 4 (by decide) q1152 (fun x h => h) rfl dX3_isNear_2_15 ?_
    refine lv_iload_n hx hb dX3_isNear_2_18 rfl (lv_at hl 1 rfl) ?_
    refine x_aald S hK 3 rfl rfl hq_o_4 (by omega) (by omega) rfl dX3_isNear_2_19 ?_
    have hr_w_5 := hr_o_4 (i).toNat (by omega)
    have hbw_w_5 := hbc (i).toNat (by omega)
    refine lv_aload_n hx hb dX3_isNear_2_20 rfl (lv_at hl 0 rfl) ?_
    refine x_get S hK in_X3 hm_o_4 rfl 4 (by decide) q1152 (fun x h => h) rfl dX3_isNear_2_21 ?_
    refine lv_iload_n hx hb dX3_isNear_2_24 rfl (lv_at hl 2 rfl) ?_
    refine x_aald S hK 3 rfl rfl hq_o_4 (by omega) (by omega) rfl dX3_isNear_2_25 ?_
    have hr_w_6 := hr_o_4 (j).toNat (by omega)
    have hbw_w_6 := hbc (j).toNat (by omega)
    refine x_c0S (as := [.ref ((rb_o_4) ((i).toNat)), .ref ((rb_o_4) ((j).toNat))]) (rest := []) S hK (c_X3_isNear l G H_c_2 (cc (i).toNat) (cc (j).toNat) ((rb_o_4) ((i).toNat)) ((rb_o_4) ((j).toNat)) (by first | assumption | (apply hbc; omega)) (by first | assumption | (apply hbc; omega)) hr_w_5 hr_w_6) q1698 q1699 q43 q1700 hdX3_isNear ⟨by decide, by decide⟩ hl.1 rfl rfl (Nat.le_of_ble_eq_true rfl) ⟨Nat.le_of_ble_eq_true rfl, Nat.le_of_ble_eq_true rfl⟩ dX3_isNear_2_26 ?_
    refine xi_ifb_eq (tgt := 36) hx hb dX3_isNear_2_29 (by decide) (fun c_29 => ?_) (fun c_29 => ?_)
    · skip
      refine xi_iconst hx hb dX3_isNear_2_36 ?_
      refine x_ret1z (E := False) hx hb hr hlk hH hS (by omega) (by omega) rfl ?_ dX3_isNear_2_37
      first | (exfalso; omega) | exact ⟨(_, _, _, _, _), (by unfold op_isNear; (repeat (first | with_reducible refine ifp (by omega) ?_ | with_reducible refine ifn (by omega) ?_)); first | rfl | exact comeF_s (by assumption) | exact comeF_n (by assumption) | exact comeF_s (if_pos (by omega)) | exact comeF_n (if_neg (by omega))), rfl, ⟨rb_o_4, hm_o_4, hq_o_4, hr_o_4, hza_o_4, hzc_o_4⟩⟩
    · skip
      refine xi_iconst hx hb dX3_isNear_2_32 ?_
      refine lv_goto (tgt := 37) hx hb dX3_isNear_2_33 (by decide) ?_
      refine x_ret1z (E := True) hx hb hr hlk hH hS (by omega) (by omega) rfl ?_ dX3_isNear_2_37
      first | (exfalso; omega) | exact ⟨(_, _, _, _, _), (by unfold op_isNear; (repeat (first | with_reducible refine ifp (by omega) ?_ | with_reducible refine ifn (by omega) ?_)); first | rfl | exact comeF_s (by assumption) | exact comeF_n (by assumption) | exact comeF_s (if_pos (by omega)) | exact comeF_n (if_neg (by omega))), rfl, ⟨rb_o_4, hm_o_4, hq_o_4, hr_o_4, hza_o_4, hzc_o_4⟩⟩

theorem hpX3_isBelow : plainFor yX3_isBelow = true := by decide +kernel
theorem hdX3_isBelow : nMH yX3_isBelow 1 := by decide +kernel
set_option maxHeartbeats 4000000 in
theorem c_X3_isBelow (l : Launch) (G : GG) (H0 : Heap) (mc : Nat) (th : Int) (ac : Int) (no : Int) (kn : Int) (cc : Nat → Row) (h : Nat) (k : Int) (r_k : -2147483648 ≤ k ∧ k < 2147483648) (hac : 0 ≤ ac ∧ ac ≤ 1000) (hno : 0 ≤ no ∧ no ≤ 1000) (hkn : 0 ≤ kn ∧ kn ≤ 1000) (hok : ∀ k : Nat, k < 8 → okR (cc k)) (hw : MW G (h) (mc) (th) (ac) (no) (kn) (cc) H0) : Ct1 l G yX3_isBelow cX3_isBelow 2 (Option.some Jvm.ClassFile.FieldType.boolean) 2 0 0 45 [.ref (h), .int (iI (k))] H0 (fun q => q = h ∨ q = mc) (fun (rv : Option Value) (H1 : Heap) => ∃ z : Res, op_isBelow ac no cc (k) = z ∧ rv = some (.int (iI z.2.1)) ∧ MW G h mc z.1 z.2.2.1 z.2.2.2.1 kn z.2.2.2.2 H1) := by
  refine Ct1.start hpX3_isBelow (Nat.le_of_ble_eq_true rfl) ?_
  intro p e s m below meth c ls hx hb hr S hlk hname hH hK hS hl
  have hl : lv_has ls 2 [(0, .ref (h)), (1, .int (iI (k)))] := hl
  have hbc : ∀ k : Nat, k < 8 → bRow (cc k) := fun k h => okR_b (hok k h)
  have kw : Keep (fun q => q = h ∨ q = mc) H0 H0 := Keep.rf
  have hz0 := hK.2.2.1
  refine lv_aload_n hx hb dX3_isBelow_0 rfl (lv_at hl 0 rfl) ?_
  refine lv_iload_n hx hb dX3_isBelow_1 rfl (lv_at hl 1 rfl) ?_
  refine x_c0S (as := [.int (iI (k))]) (rest := [.ref (h)]) S hK (c_X3_isNoCell l G H0 (k) (by omega) ) q1173 q1174 q43 q1175 hdX3_isNoCell ⟨by decide, by decide⟩ hl.1 rfl rfl (Nat.le_of_ble_eq_true rfl) ⟨Nat.le_of_ble_eq_true rfl, Nat.le_of_ble_eq_true rfl⟩ dX3_isBelow_2 ?_
  refine xi_iconst hx hb dX3_isBelow_5 ?_
  have hw_o_1 := hw
  obtain ⟨rb_o_1, hm_o_1, hq_o_1, hr_o_1, hza_o_1, hzc_o_1⟩ := hw_o_1
  refine x_c1V (as := [.int (iI (b2i (¬ (0 ≤ (k) ∧ (k) ≤ 7)))), .int (iI (1))]) (rest := []) S hK hm_o_1 rfl rfl (c_X3_start l G H0 (mc) (th) (ac) (no) (kn) (cc) (h) (¬ (0 ≤ (k) ∧ (k) ≤ 7)) (1) (by omega) (by first | assumption | omega) (by first | assumption | omega) (by first | assumption | omega) (by assumption) (by omega) hw) q1180 q1182 qs9 q43 q1183 hdX3_start ⟨by decide, by decide⟩ hl.1 rfl rfl (Nat.le_of_ble_eq_true rfl) ⟨Nat.le_of_ble_eq_true rfl, Nat.le_of_ble_eq_true rfl⟩ hS (fun q e => Or.inl (Or.inl e)) (fun q z => Or.inr z) dX3_isBelow_6 (fun rv_c_2 H_c_2 locs hp_c_2 k_c_2 hS => ?_)
  have kw := kw.then k_c_2 (fun q e _ => Or.inl e)
  have hK := hK.keep k_c_2 (fun q e => by have e : q = h := e; omega)
  obtain ⟨th_r_3, hth_r_3, rfl, hw_r_3⟩ := hp_c_2
  refine W.eq (g2 := F0 m 9 ls [.int (iI (b2i (0 < (th_r_3))))]) rfl ?_
  refine xi_ifb_ne (tgt := 28) hx hb dX3_isBelow_9 (by decide) (fun c_9 => ?_) (fun c_9 => ?_)
  · skip
    obtain rfl : th_r_3 = 1 := by omega
    refine xi_iconst hx hb dX3_isBelow_28 ?_
    refine x_ret1z (E := False) hx hb hr hlk hH hS (by omega) (by omega) rfl ?_ dX3_isBelow_29
    first | (exfalso; omega) | exact ⟨(_, _, _, _, _), (by unfold op_isBelow; (repeat (first | with_reducible refine ifp (by omega) ?_ | with_reducible refine ifn (by omega) ?_)); first | rfl | exact comeF_s (by assumption) | exact comeF_n (by assumption) | exact comeF_s (if_pos (by omega)) | exact comeF_n (if_neg (by omega))), rfl, hw_r_3⟩
  · skip
    obtain rfl : th_r_3 = 0 := by omega
    refine lv_aload_n hx hb dX3_isBelow_12 rfl (lv_at hl 0 rfl) ?_
    have hw_o_4 := hw_r_3
    obtain ⟨rb_o_4, hm_o_4, hq_o_4, hr_o_4, hza_o_4, hzc_o_4⟩ := hw_o_4
    refine x_get S hK in_X3 hm_o_4 rfl 4 (by decide) q1152 (fun x h => h) rfl dX3_isBelow_13 ?_
    refine lv_iload_n hx hb dX3_isBelow_16 rfl (lv_at hl 1 rfl) ?_
    refine x_aald S hK 3 rfl rfl hq_o_4 (by omega) (by omega) rfl dX3_isBelow_17 ?_
    have hr_w_5 := hr_o_4 (k).toNat (by omega)
    have hbw_w_5 := hbc (k).toNat (by omega)
    refine xi_iconst hx hb dX3_isBelow_18 ?_
    refine x_iald (w := (cc (k).toNat).2.2) S hK hr_w_5 (by omega) (by decide) rfl dX3_isBelow_19 ?_
    refine xi_iconst hx hb dX3_isBelow_20 ?_
    refine xi_icmp_ne (tgt := 28) hx hb dX3_isBelow_21 (by decide) (by omega) (by omega) (fun c_21 => ?_) (fun c_21 => ?_)
    · skip
      refine xi_iconst hx hb dX3_isBelow_28 ?_
      refine x_ret1z (E := False) hx hb hr hlk hH hS (by omega) (by omega) rfl ?_ dX3_isBelow_29
      first | (exfalso; omega) | exact ⟨(_, _, _, _, _), (by unfold op_isBelow; (repeat (first | with_reducible refine ifp (by omega) ?_ | with_reducible refine ifn (by omega) ?_)); first | rfl | exact comeF_s (by assumption) | exact comeF_n (by assumption) | exact comeF_s (if_pos (by omega)) | exact comeF_n (if_neg (by omega))), rfl, ⟨rb_o_4, hm_o_4, hq_o_4, hr_o_4, hza_o_4, hzc_o_4⟩⟩
    · skip
      refine xi_iconst hx hb dX3_isBelow_24 ?_
      refine lv_goto (tgt := 29) hx hb dX3_isBelow_25 (by decide) ?_
      refine x_ret1z (E := True) hx hb hr hlk hH hS (by omega) (by omega) rfl ?_ dX3_isBelow_29
      first | (exfalso; omega) | exact ⟨(_, _, _, _, _), (by unfold op_isBelow; (repeat (first | with_reducible refine ifp (by omega) ?_ | with_reducible refine ifn (by omega) ?_)); first | rfl | exact comeF_s (by assumption) | exact comeF_n (by assumption) | exact comeF_s (if_pos (by omega)) | exact comeF_n (if_neg (by omega))), rfl, ⟨rb_o_4, hm_o_4, hq_o_4, hr_o_4, hza_o_4, hzc_o_4⟩⟩

theorem hpX3_height : plainFor yX3_height = true := by decide +kernel
theorem hdX3_height : nMH yX3_height 1 := by decide +kernel
set_option maxHeartbeats 4000000 in
theorem c_X3_height (l : Launch) (G : GG) (H0 : Heap) (mc : Nat) (th : Int) (ac : Int) (no : Int) (kn : Int) (cc : Nat → Row) (h : Nat) (k : Int) (r_k : -2147483648 ≤ k ∧ k < 2147483648) (hac : 0 ≤ ac ∧ ac ≤ 1000) (hno : 0 ≤ no ∧ no ≤ 1000) (hkn : 0 ≤ kn ∧ kn ≤ 1000) (hok : ∀ k : Nat, k < 8 → okR (cc k)) (hw : MW G (h) (mc) (th) (ac) (no) (kn) (cc) H0) : Ct1 l G yX3_height cX3_height 2 (Option.some Jvm.ClassFile.FieldType.int) 3 0 0 64 [.ref (h), .int (iI (k))] H0 (fun q => q = h ∨ q = mc) (fun (rv : Option Value) (H1 : Heap) => ∃ z : Res, op_height ac no cc (k) = z ∧ rv = some (.int (iI z.2.1)) ∧ MW G h mc z.1 z.2.2.1 z.2.2.2.1 kn z.2.2.2.2 H1) := by
  refine Ct1.start hpX3_height (Nat.le_of_ble_eq_true rfl) ?_
  intro p e s m below meth c ls hx hb hr S hlk hname hH hK hS hl
  have hl : lv_has ls 2 [(0, .ref (h)), (1, .int (iI (k)))] := hl
  have hbc : ∀ k : Nat, k < 8 → bRow (cc k) := fun k h => okR_b (hok k h)
  have kw : Keep (fun q => q = h ∨ q = mc) H0 H0 := Keep.rf
  have hz0 := hK.2.2.1
  refine lv_aload_n hx hb dX3_height_0 rfl (lv_at hl 0 rfl) ?_
  refine lv_iload_n hx hb dX3_height_1 rfl (lv_at hl 1 rfl) ?_
  refine x_c0S (as := [.int (iI (k))]) (rest := [.ref (h)]) S hK (c_X3_isNoCell l G H0 (k) (by omega) ) q1173 q1174 q43 q1175 hdX3_isNoCell ⟨by decide, by decide⟩ hl.1 rfl rfl (Nat.le_of_ble_eq_true rfl) ⟨Nat.le_of_ble_eq_true rfl, Nat.le_of_ble_eq_true rfl⟩ dX3_height_2 ?_
  refine xi_iconst hx hb dX3_height_5 ?_
  have hw_o_1 := hw
  obtain ⟨rb_o_1, hm_o_1, hq_o_1, hr_o_1, hza_o_1, hzc_o_1⟩ := hw_o_1
  refine x_c1V (as := [.int (iI (b2i (¬ (0 ≤ (k) ∧ (k) ≤ 7)))), .int (iI (1))]) (rest := []) S hK hm_o_1 rfl rfl (c_X3_start l G H0 (mc) (th) (ac) (no) (kn) (cc) (h) (¬ (0 ≤ (k) ∧ (k) ≤ 7)) (1) (by omega) (by first | assumption | omega) (by first | assumption | omega) (by first | assumption | omega) (by assumption) (by omega) hw) q1180 q1182 qs9 q43 q1183 hdX3_start ⟨by decide, by decide⟩ hl.1 rfl rfl (Nat.le_of_ble_eq_true rfl) ⟨Nat.le_of_ble_eq_true rfl, Nat.le_of_ble_eq_true rfl⟩ hS (fun q e => Or.inl (Or.inl e)) (fun q z => Or.inr z) dX3_height_6 (fun rv_c_2 H_c_2 locs hp_c_2 k_c_2 hS => ?_)
  have kw := kw.then k_c_2 (fun q e _ => Or.inl e)
  have hK := hK.keep k_c_2 (fun q e => by have e : q = h := e; omega)
  obtain ⟨th_r_3, hth_r_3, rfl, hw_r_3⟩ := hp_c_2
  refine W.eq (g2 := F0 m 9 ls [.int (iI (b2i (0 < (th_r_3))))]) rfl ?_
  refine xi_ifb_ne (tgt := 25) hx hb dX3_height_9 (by decide) (fun c_9 => ?_) (fun c_9 => ?_)
  · skip
    obtain rfl : th_r_3 = 1 := by omega
    refine xi_iconst hx hb dX3_height_25 ?_
    refine lv_goto (tgt := 34) hx hb dX3_height_26 (by decide) ?_
    refine x_ret1i hx hb hr hlk hH hS (by omega) (by omega) ?_ dX3_height_34
    first | (exfalso; omega) | exact ⟨(_, _, _, _, _), (by unfold op_height; (repeat (first | with_reducible refine ifp (by omega) ?_ | with_reducible refine ifn (by omega) ?_)); first | rfl | exact comeF_s (by assumption) | exact comeF_n (by assumption) | exact comeF_s (if_pos (by omega)) | exact comeF_n (if_neg (by omega))), rfl, hw_r_3⟩
  · skip
    obtain rfl : th_r_3 = 0 := by omega
    refine lv_aload_n hx hb dX3_height_12 rfl (lv_at hl 0 rfl) ?_
    refine lv_aload_n hx hb dX3_height_13 rfl (lv_at hl 0 rfl) ?_
    refine lv_iload_n hx hb dX3_height_14 rfl (lv_at hl 1 rfl) ?_
    have hw_o_4 := hw_r_3
    obtain ⟨rb_o_4, hm_o_4, hq_o_4, hr_o_4, hza_o_4, hzc_o_4⟩ := hw_o_4
    refine x_c0V (as := [.int (iI (k))]) (rest := [.ref (h)]) S hK hm_o_4 rfl rfl (c_X3_isFlat l G H_c_2 (mc) (0) (ac) (no) (kn) (cc) (h) (k) (by omega) (by first | assumption | omega) (by first | assumption | omega) (by first | assumption | omega) (by assumption) (by omega) hw_r_3) q1631 q1633 qs29 q43 q1634 hdX3_isFlat ⟨by decide, by decide⟩ hl.1 rfl rfl (Nat.le_of_ble_eq_true rfl) ⟨Nat.le_of_ble_eq_true rfl, Nat.le_of_ble_eq_true rfl⟩ dX3_height_15 ?_
    refine xi_iconst hx hb dX3_height_18 ?_
    refine x_c1V (as := [.int (iI (b2i ((((cc) (k).toNat).1 ≠ 0 ∧ ((cc) (k).toNat).1 ≠ 2) ∨ zeroR ((cc) (k).toNat)))), .int (iI (2))]) (rest := []) S hK hm_o_4 rfl rfl (c_X3_refuse l G H_c_2 (mc) (0) (ac) (no) (kn) (cc) (h) ((((cc) (k).toNat).1 ≠ 0 ∧ ((cc) (k).toNat).1 ≠ 2) ∨ zeroR ((cc) (k).toNat)) (2) (by omega) (by first | assumption | omega) (by first | assumption | omega) (by first | assumption | omega) (by assumption) (by omega) (by omega) hw_r_3) q1184 q1186 qs10 q43 q1187 hdX3_refuse ⟨by decide, by decide⟩ hl.1 rfl rfl (Nat.le_of_ble_eq_true rfl) ⟨Nat.le_of_ble_eq_true rfl, Nat.le_of_ble_eq_true rfl⟩ hS (fun q e => Or.inl (Or.inl e)) (fun q z => Or.inr z) dX3_height_19 (fun rv_c_5 H_c_5 locs hp_c_5 k_c_5 hS => ?_)
    have kw := kw.then k_c_5 (fun q e _ => Or.inl e)
    have hK := hK.keep k_c_5 (fun q e => by have e : q = h := e; omega)
    obtain ⟨th_r_6, hth_r_6, rfl, hw_r_6⟩ := hp_c_5
    refine W.eq (g2 := F0 m 22 ls [.int (iI (b2i (0 < (th_r_6))))]) rfl ?_
    refine xi_ifb_eq (tgt := 29) hx hb dX3_height_22 (by decide) (fun c_22 => ?_) (fun c_22 => ?_)
    · skip
      obtain rfl : th_r_6 = 0 := by omega
      refine lv_aload_n hx hb dX3_height_29 rfl (lv_at hl 0 rfl) ?_
      refine lv_iload_n hx hb dX3_height_30 rfl (lv_at hl 1 rfl) ?_
      have hw_o_7 := hw_r_6
      obtain ⟨rb_o_7, hm_o_7, hq_o_7, hr_o_7, hza_o_7, hzc_o_7⟩ := hw_o_7
      refine x_c0V (as := [.int (iI (k))]) (rest := []) S hK hm_o_7 rfl rfl (c_X3_heightTold l G H_c_5 (mc) (0) (ac) (no) (kn) (cc) (h) (k) (by omega) (by first | assumption | omega) (by first | assumption | omega) (by first | assumption | omega) (by assumption) (by omega) hw_r_6) q1635 q1637 qs30 q43 q1638 hdX3_heightTold ⟨by decide, by decide⟩ hl.1 rfl rfl (Nat.le_of_ble_eq_true rfl) ⟨Nat.le_of_ble_eq_true rfl, Nat.le_of_ble_eq_true rfl⟩ dX3_height_31 ?_
      refine x_ret1i hx hb hr hlk hH hS (by omega) (by omega) ?_ dX3_height_34
      first | (exfalso; omega) | exact ⟨(_, _, _, _, _), (by unfold op_height; (repeat (first | with_reducible refine ifp (by omega) ?_ | with_reducible refine ifn (by omega) ?_)); first | rfl | exact comeF_s (by assumption) | exact comeF_n (by assumption) | exact comeF_s (if_pos (by omega)) | exact comeF_n (if_neg (by omega))), rfl, ⟨rb_o_7, hm_o_7, hq_o_7, hr_o_7, hza_o_7, hzc_o_7⟩⟩
    · skip
      obtain rfl : th_r_6 = 2 := by omega
      refine xi_iconst hx hb dX3_height_25 ?_
      refine lv_goto (tgt := 34) hx hb dX3_height_26 (by decide) ?_
      refine x_ret1i hx hb hr hlk hH hS (by omega) (by omega) ?_ dX3_height_34
      first | (exfalso; omega) | exact ⟨(_, _, _, _, _), (by unfold op_height; (repeat (first | with_reducible refine ifp (by omega) ?_ | with_reducible refine ifn (by omega) ?_)); first | rfl | exact comeF_s (by assumption) | exact comeF_n (by assumption) | exact comeF_s (if_pos (by omega)) | exact comeF_n (if_neg (by omega))), rfl, hw_r_6⟩

theorem hpX3_order : plainFor yX3_order = true := by decide +kernel
theorem hdX3_order : nMH yX3_order 2 := by decide +kernel
set_option maxHeartbeats 4000000 in
theorem c_X3_order (l : Launch) (G : GG) (H0 : Heap) (mc : Nat) (th : Int) (ac : Int) (no : Int) (kn : Int) (cc : Nat → Row) (h : Nat) (i : Int) (j : Int) (r_i : -2147483648 ≤ i ∧ i < 2147483648) (r_j : -2147483648 ≤ j ∧ j < 2147483648) (hac : 0 ≤ ac ∧ ac ≤ 1000) (hno : 0 ≤ no ∧ no ≤ 1000) (hkn : 0 ≤ kn ∧ kn ≤ 1000) (hok : ∀ k : Nat, k < 8 → okR (cc k)) (hw : MW G (h) (mc) (th) (ac) (no) (kn) (cc) H0) : Ct1 l G yX3_order cX3_order 3 (Option.some Jvm.ClassFile.FieldType.int) 3 0 0 67 [.ref (h), .int (iI (i)), .int (iI (j))] H0 (fun q => q = h ∨ q = mc) (fun (rv : Option Value) (H1 : Heap) => ∃ z : Res, op_order ac no cc (i) (j) = z ∧ rv = some (.int (iI z.2.1)) ∧ MW G h mc z.1 z.2.2.1 z.2.2.2.1 kn z.2.2.2.2 H1) := by
  refine Ct1.start hpX3_order (Nat.le_of_ble_eq_true rfl) ?_
  intro p e s m below meth c ls hx hb hr S hlk hname hH hK hS hl
  have hl : lv_has ls 3 [(0, .ref (h)), (1, .int (iI (i))), (2, .int (iI (j)))] := hl
  have hbc : ∀ k : Nat, k < 8 → bRow (cc k) := fun k h => okR_b (hok k h)
  have kw : Keep (fun q => q = h ∨ q = mc) H0 H0 := Keep.rf
  have hz0 := hK.2.2.1
  refine lv_aload_n hx hb dX3_order_0 rfl (lv_at hl 0 rfl) ?_
  refine lv_aload_n hx hb dX3_order_1 rfl (lv_at hl 0 rfl) ?_
  refine lv_iload_n hx hb dX3_order_2 rfl (lv_at hl 1 rfl) ?_
  refine lv_iload_n hx hb dX3_order_3 rfl (lv_at hl 2 rfl) ?_
  have hw_o_1 := hw
  obtain ⟨rb_o_1, hm_o_1, hq_o_1, hr_o_1, hza_o_1, hzc_o_1⟩ := hw_o_1
  refine x_c0V (as := [.int (iI (i)), .int (iI (j))]) (rest := [.ref (h)]) S hK hm_o_1 rfl rfl (c_X3_areNoCells l G H0 (h) (i) (j) (by omega) (by omega) ) q1690 q1692 qs34 q43 q1693 hdX3_areNoCells ⟨by decide, by decide⟩ hl.1 rfl rfl (Nat.le_of_ble_eq_true rfl) ⟨Nat.le_of_ble_eq_true rfl, Nat.le_of_ble_eq_true rfl⟩ dX3_order_4 ?_
  refine xi_iconst hx hb dX3_order_7 ?_
  refine x_c1V (as := [.int (iI (b2i (¬ (0 ≤ (i) ∧ (i) ≤ 7) ∨ ¬ (0 ≤ (j) ∧ (j) ≤ 7)))), .int (iI (1))]) (rest := []) S hK hm_o_1 rfl rfl (c_X3_start l G H0 (mc) (th) (ac) (no) (kn) (cc) (h) (¬ (0 ≤ (i) ∧ (i) ≤ 7) ∨ ¬ (0 ≤ (j) ∧ (j) ≤ 7)) (1) (by omega) (by first | assumption | omega) (by first | assumption | omega) (by first | assumption | omega) (by assumption) (by omega) hw) q1180 q1182 qs9 q43 q1183 hdX3_start ⟨by decide, by decide⟩ hl.1 rfl rfl (Nat.le_of_ble_eq_true rfl) ⟨Nat.le_of_ble_eq_true rfl, Nat.le_of_ble_eq_true rfl⟩ hS (fun q e => Or.inl (Or.inl e)) (fun q z => Or.inr z) dX3_order_8 (fun rv_c_2 H_c_2 locs hp_c_2 k_c_2 hS => ?_)
  have kw := kw.then k_c_2 (fun q e _ => Or.inl e)
  have hK := hK.keep k_c_2 (fun q e => by have e : q = h := e; omega)
  obtain ⟨th_r_3, hth_r_3, rfl, hw_r_3⟩ := hp_c_2
  refine W.eq (g2 := F0 m 11 ls [.int (iI (b2i (0 < (th_r_3))))]) rfl ?_
  refine xi_ifb_eq (tgt := 18) hx hb dX3_order_11 (by decide) (fun c_11 => ?_) (fun c_11 => ?_)
  · skip
    obtain rfl : th_r_3 = 0 := by omega
    refine lv_aload_n hx hb dX3_order_18 rfl (lv_at hl 0 rfl) ?_
    refine lv_iload_n hx hb dX3_order_19 rfl (lv_at hl 1 rfl) ?_
    refine lv_iload_n hx hb dX3_order_20 rfl (lv_at hl 2 rfl) ?_
    have hw_o_4 := hw_r_3
    obtain ⟨rb_o_4, hm_o_4, hq_o_4, hr_o_4, hza_o_4, hzc_o_4⟩ := hw_o_4
    refine x_c0V (as := [.int (iI (i)), .int (iI (j))]) (rest := []) S hK hm_o_4 rfl rfl (c_X3_orderTold l G H_c_2 (mc) (0) (ac) (no) (kn) (cc) (h) (i) (j) (by omega) (by omega) (by first | assumption | omega) (by first | assumption | omega) (by first | assumption | omega) (by assumption) (by omega) (by omega) hw_r_3) q1694 q1696 qs35 q43 q1697 hdX3_orderTold ⟨by decide, by decide⟩ hl.1 rfl rfl (Nat.le_of_ble_eq_true rfl) ⟨Nat.le_of_ble_eq_true rfl, Nat.le_of_ble_eq_true rfl⟩ dX3_order_21 ?_
    refine x_ret1i hx hb hr hlk hH hS (by omega) (by omega) ?_ dX3_order_24
    first | (exfalso; omega) | exact ⟨(_, _, _, _, _), (by unfold op_order; (repeat (first | with_reducible refine ifp (by omega) ?_ | with_reducible refine ifn (by omega) ?_)); first | rfl | exact comeF_s (by assumption) | exact comeF_n (by assumption) | exact comeF_s (if_pos (by omega)) | exact comeF_n (if_neg (by omega))), rfl, ⟨rb_o_4, hm_o_4, hq_o_4, hr_o_4, hza_o_4, hzc_o_4⟩⟩
  · skip
    obtain rfl : th_r_3 = 1 := by omega
    refine xi_iconst hx hb dX3_order_14 ?_
    refine lv_goto (tgt := 24) hx hb dX3_order_15 (by decide) ?_
    refine x_ret1i hx hb hr hlk hH hS (by omega) (by omega) ?_ dX3_order_24
    first | (exfalso; omega) | exact ⟨(_, _, _, _, _), (by unfold op_order; (repeat (first | with_reducible refine ifp (by omega) ?_ | with_reducible refine ifn (by omega) ?_)); first | rfl | exact comeF_s (by assumption) | exact comeF_n (by assumption) | exact comeF_s (if_pos (by omega)) | exact comeF_n (if_neg (by omega))), rfl, hw_r_3⟩

theorem hpX3_most : plainFor yX3_most = true := by decide +kernel
theorem hdX3_most : nMH yX3_most 2 := by decide +kernel
set_option maxHeartbeats 4000000 in
theorem c_X3_most (l : Launch) (G : GG) (H0 : Heap) (mc : Nat) (th : Int) (ac : Int) (no : Int) (kn : Int) (cc : Nat → Row) (h : Nat) (i : Int) (j : Int) (r_i : -2147483648 ≤ i ∧ i < 2147483648) (r_j : -2147483648 ≤ j ∧ j < 2147483648) (hac : 0 ≤ ac ∧ ac ≤ 1000) (hno : 0 ≤ no ∧ no ≤ 1000) (hkn : 0 ≤ kn ∧ kn ≤ 1000) (hok : ∀ k : Nat, k < 8 → okR (cc k)) (hw : MW G (h) (mc) (th) (ac) (no) (kn) (cc) H0) : Ct1 l G yX3_most cX3_most 3 (Option.some Jvm.ClassFile.FieldType.int) 3 0 0 67 [.ref (h), .int (iI (i)), .int (iI (j))] H0 (fun q => q = h ∨ q = mc) (fun (rv : Option Value) (H1 : Heap) => ∃ z : Res, op_most ac no cc (i) (j) = z ∧ rv = some (.int (iI z.2.1)) ∧ MW G h mc z.1 z.2.2.1 z.2.2.2.1 kn z.2.2.2.2 H1) := by
  refine Ct1.start hpX3_most (Nat.le_of_ble_eq_true rfl) ?_
  intro p e s m below meth c ls hx hb hr S hlk hname hH hK hS hl
  have hl : lv_has ls 3 [(0, .ref (h)), (1, .int (iI (i))), (2, .int (iI (j)))] := hl
  have hbc : ∀ k : Nat, k < 8 → bRow (cc k) := fun k h => okR_b (hok k h)
  have kw : Keep (fun q => q = h ∨ q = mc) H0 H0 := Keep.rf
  have hz0 := hK.2.2.1
  refine lv_aload_n hx hb dX3_most_0 rfl (lv_at hl 0 rfl) ?_
  refine lv_aload_n hx hb dX3_most_1 rfl (lv_at hl 0 rfl) ?_
  refine lv_iload_n hx hb dX3_most_2 rfl (lv_at hl 1 rfl) ?_
  refine lv_iload_n hx hb dX3_most_3 rfl (lv_at hl 2 rfl) ?_
  have hw_o_1 := hw
  obtain ⟨rb_o_1, hm_o_1, hq_o_1, hr_o_1, hza_o_1, hzc_o_1⟩ := hw_o_1
  refine x_c0V (as := [.int (iI (i)), .int (iI (j))]) (rest := [.ref (h)]) S hK hm_o_1 rfl rfl (c_X3_areNoCells l G H0 (h) (i) (j) (by omega) (by omega) ) q1690 q1692 qs34 q43 q1693 hdX3_areNoCells ⟨by decide, by decide⟩ hl.1 rfl rfl (Nat.le_of_ble_eq_true rfl) ⟨Nat.le_of_ble_eq_true rfl, Nat.le_of_ble_eq_true rfl⟩ dX3_most_4 ?_
  refine xi_iconst hx hb dX3_most_7 ?_
  refine x_c1V (as := [.int (iI (b2i (¬ (0 ≤ (i) ∧ (i) ≤ 7) ∨ ¬ (0 ≤ (j) ∧ (j) ≤ 7)))), .int (iI (1))]) (rest := []) S hK hm_o_1 rfl rfl (c_X3_start l G H0 (mc) (th) (ac) (no) (kn) (cc) (h) (¬ (0 ≤ (i) ∧ (i) ≤ 7) ∨ ¬ (0 ≤ (j) ∧ (j) ≤ 7)) (1) (by omega) (by first | assumption | omega) (by first | assumption | omega) (by first | assumption | omega) (by assumption) (by omega) hw) q1180 q1182 qs9 q43 q1183 hdX3_start ⟨by decide, by decide⟩ hl.1 rfl rfl (Nat.le_of_ble_eq_true rfl) ⟨Nat.le_of_ble_eq_true rfl, Nat.le_of_ble_eq_true rfl⟩ hS (fun q e => Or.inl (Or.inl e)) (fun q z => Or.inr z) dX3_most_8 (fun rv_c_2 H_c_2 locs hp_c_2 k_c_2 hS => ?_)
  have kw := kw.then k_c_2 (fun q e _ => Or.inl e)
  have hK := hK.keep k_c_2 (fun q e => by have e : q = h := e; omega)
  obtain ⟨th_r_3, hth_r_3, rfl, hw_r_3⟩ := hp_c_2
  refine W.eq (g2 := F0 m 11 ls [.int (iI (b2i (0 < (th_r_3))))]) rfl ?_
  refine xi_ifb_ne (tgt := 45) hx hb dX3_most_11 (by decide) (fun c_11 => ?_) (fun c_11 => ?_)
  · skip
    obtain rfl : th_r_3 = 1 := by omega
    refine xi_iconst hx hb dX3_most_45 ?_
    refine x_ret1i hx hb hr hlk hH hS (by omega) (by omega) ?_ dX3_most_46
    first | (exfalso; omega) | exact ⟨(_, _, _, _, _), (by unfold op_most; (repeat (first | with_reducible refine ifp (by omega) ?_ | with_reducible refine ifn (by omega) ?_)); first | rfl | exact comeF_s (by assumption) | exact comeF_n (by assumption) | exact comeF_s (if_pos (by omega)) | exact comeF_n (if_neg (by omega))), rfl, hw_r_3⟩
  · skip
    obtain rfl : th_r_3 = 0 := by omega
    refine lv_aload_n hx hb dX3_most_14 rfl (lv_at hl 0 rfl) ?_
    refine lv_aload_n hx hb dX3_most_15 rfl (lv_at hl 0 rfl) ?_
    have hw_o_4 := hw_r_3
    obtain ⟨rb_o_4, hm_o_4, hq_o_4, hr_o_4, hza_o_4, hzc_o_4⟩ := hw_o_4
    refine x_get S hK in_X3 hm_o_4 rfl 4 (by decide) q1152 (fun x h => h) rfl dX3_most_16 ?_
    refine lv_iload_n hx hb dX3_most_19 rfl (lv_at hl 1 rfl) ?_
    refine x_aald S hK 3 rfl rfl hq_o_4 (by omega) (by omega) rfl dX3_most_20 ?_
    have hr_w_5 := hr_o_4 (i).toNat (by omega)
    have hbw_w_5 := hbc (i).toNat (by omega)
    refine lv_aload_n hx hb dX3_most_21 rfl (lv_at hl 0 rfl) ?_
    refine x_get S hK in_X3 hm_o_4 rfl 4 (by decide) q1152 (fun x h => h) rfl dX3_most_22 ?_
    refine lv_iload_n hx hb dX3_most_25 rfl (lv_at hl 2 rfl) ?_
    refine x_aald S hK 3 rfl rfl hq_o_4 (by omega) (by omega) rfl dX3_most_26 ?_
    have hr_w_6 := hr_o_4 (j).toNat (by omega)
    have hbw_w_6 := hbc (j).toNat (by omega)
    refine x_c0S (as := [.ref ((rb_o_4) ((i).toNat)), .ref ((rb_o_4) ((j).toNat))]) (rest := [.ref (h)]) S hK (c_X3_isNear l G H_c_2 (cc (i).toNat) (cc (j).toNat) ((rb_o_4) ((i).toNat)) ((rb_o_4) ((j).toNat)) (by first | assumption | (apply hbc; omega)) (by first | assumption | (apply hbc; omega)) hr_w_5 hr_w_6) q1698 q1699 q43 q1700 hdX3_isNear ⟨by decide, by decide⟩ hl.1 rfl rfl (Nat.le_of_ble_eq_true rfl) ⟨Nat.le_of_ble_eq_true rfl, Nat.le_of_ble_eq_true rfl⟩ dX3_most_27 ?_
    refine xi_ifb_ne (tgt := 37) hx hb dX3_most_30 (by decide) (fun c_30 => ?_) (fun c_30 => ?_)
    · skip
      refine xi_iconst hx hb dX3_most_37 ?_
      refine xi_iconst hx hb dX3_most_38 ?_
      refine x_c1V (as := [.int (iI (0)), .int (iI (2))]) (rest := []) S hK hm_o_4 rfl rfl (c_X3_refuse l G H_c_2 (mc) (0) (ac) (no) (kn) (cc) (h) (False) (2) (by omega) (by first | assumption | omega) (by first | assumption | omega) (by first | assumption | omega) (by assumption) (by omega) (by omega) hw_r_3) q1184 q1186 qs10 q43 q1187 hdX3_refuse ⟨by decide, by decide⟩ hl.1 rfl rfl (Nat.le_of_ble_eq_true rfl) ⟨Nat.le_of_ble_eq_true rfl, Nat.le_of_ble_eq_true rfl⟩ hS (fun q e => Or.inl (Or.inl e)) (fun q z => Or.inr z) dX3_most_39 (fun rv_c_7 H_c_7 locs hp_c_7 k_c_7 hS => ?_)
      have kw := kw.then k_c_7 (fun q e _ => Or.inl e)
      have hK := hK.keep k_c_7 (fun q e => by have e : q = h := e; omega)
      obtain ⟨th_r_8, hth_r_8, rfl, hw_r_8⟩ := hp_c_7
      have hth_r_8 := hth_r_8.elim (fun z => z.1.1.elim) (fun z => z.2)
      refine W.eq (g2 := F0 m 42 ls [.int (iI (b2i (0 < (th_r_8))))]) rfl ?_
      refine xi_ifb_eq (tgt := 47) hx hb dX3_most_42 (by decide) (fun c_42 => ?_) (fun c_42 => ?_)
      · skip
        obtain rfl : th_r_8 = 0 := by omega
        refine lv_aload_n hx hb dX3_most_47 rfl (lv_at hl 0 rfl) ?_
        have hw_o_9 := hw_r_8
        obtain ⟨rb_o_9, hm_o_9, hq_o_9, hr_o_9, hza_o_9, hzc_o_9⟩ := hw_o_9
        refine x_get S hK in_X3 hm_o_9 rfl 4 (by decide) q1152 (fun x h => h) rfl dX3_most_48 ?_
        refine lv_iload_n hx hb dX3_most_51 rfl (lv_at hl 1 rfl) ?_
        refine x_aald S hK 3 rfl rfl hq_o_9 (by omega) (by omega) rfl dX3_most_52 ?_
        have hr_w_10 := hr_o_9 (i).toNat (by omega)
        have hbw_w_10 := hbc (i).toNat (by omega)
        refine xi_iconst hx hb dX3_most_53 ?_
        refine x_iald (w := (cc (i).toNat).1) S hK hr_w_10 (by omega) (by decide) rfl dX3_most_54 ?_
        refine xi_if_eq (tgt := 69) hx hb dX3_most_55 (by decide) (by omega) (fun c_55 => ?_) (fun c_55 => ?_)
        · skip
          refine xi_iconst hx hb dX3_most_69 ?_
          refine lv_goto (tgt := 74) hx hb dX3_most_70 (by decide) ?_
          refine x_ret1i hx hb hr hlk hH hS (by omega) (by omega) ?_ dX3_most_74
          first | (exfalso; omega) | exact ⟨(_, _, _, _, _), (by unfold op_most; (repeat (first | with_reducible refine ifp (by omega) ?_ | with_reducible refine ifn (by omega) ?_)); first | rfl | exact comeF_s (by assumption) | exact comeF_n (by assumption) | exact comeF_s (if_pos (by omega)) | exact comeF_n (if_neg (by omega))), rfl, ⟨rb_o_9, hm_o_9, hq_o_9, hr_o_9, hza_o_9, hzc_o_9⟩⟩
        · skip
          refine lv_aload_n hx hb dX3_most_58 rfl (lv_at hl 0 rfl) ?_
          refine x_get S hK in_X3 hm_o_9 rfl 4 (by decide) q1152 (fun x h => h) rfl dX3_most_59 ?_
          refine lv_iload_n hx hb dX3_most_62 rfl (lv_at hl 2 rfl) ?_
          refine x_aald S hK 3 rfl rfl hq_o_9 (by omega) (by omega) rfl dX3_most_63 ?_
          have hr_w_11 := hr_o_9 (j).toNat (by omega)
          have hbw_w_11 := hbc (j).toNat (by omega)
          refine xi_iconst hx hb dX3_most_64 ?_
          refine x_iald (w := (cc (j).toNat).1) S hK hr_w_11 (by omega) (by decide) rfl dX3_most_65 ?_
          refine xi_if_ne (tgt := 73) hx hb dX3_most_66 (by decide) (by omega) (fun c_66 => ?_) (fun c_66 => ?_)
          · skip
            refine xi_iconst hx hb dX3_most_73 ?_
            refine x_ret1i hx hb hr hlk hH hS (by omega) (by omega) ?_ dX3_most_74
            first | (exfalso; omega) | exact ⟨(_, _, _, _, _), (by unfold op_most; (repeat (first | with_reducible refine ifp (by omega) ?_ | with_reducible refine ifn (by omega) ?_)); first | rfl | exact comeF_s (by assumption) | exact comeF_n (by assumption) | exact comeF_s (if_pos (by omega)) | exact comeF_n (if_neg (by omega))), rfl, ⟨rb_o_9, hm_o_9, hq_o_9, hr_o_9, hza_o_9, hzc_o_9⟩⟩
          · skip
            refine xi_iconst hx hb dX3_most_69 ?_
            refine lv_goto (tgt := 74) hx hb dX3_most_70 (by decide) ?_
            refine x_ret1i hx hb hr hlk hH hS (by omega) (by omega) ?_ dX3_most_74
            first | (exfalso; omega) | exact ⟨(_, _, _, _, _), (by unfold op_most; (repeat (first | with_reducible refine ifp (by omega) ?_ | with_reducible refine ifn (by omega) ?_)); first | rfl | exact comeF_s (by assumption) | exact comeF_n (by assumption) | exact comeF_s (if_pos (by omega)) | exact comeF_n (if_neg (by omega))), rfl, ⟨rb_o_9, hm_o_9, hq_o_9, hr_o_9, hza_o_9, hzc_o_9⟩⟩
      · skip
        obtain rfl : th_r_8 = 2 := by omega
        refine xi_iconst hx hb dX3_most_45 ?_
        refine x_ret1i hx hb hr hlk hH hS (by omega) (by omega) ?_ dX3_most_46
        first | (exfalso; omega) | exact ⟨(_, _, _, _, _), (by unfold op_most; (repeat (first | with_reducible refine ifp (by omega) ?_ | with_reducible refine ifn (by omega) ?_)); first | rfl | exact comeF_s (by assumption) | exact comeF_n (by assumption) | exact comeF_s (if_pos (by omega)) | exact comeF_n (if_neg (by omega))), rfl, hw_r_8⟩
    · skip
      refine xi_iconst hx hb dX3_most_33 ?_
      refine lv_goto (tgt := 38) hx hb dX3_most_34 (by decide) ?_
      refine xi_iconst hx hb dX3_most_38 ?_
      refine x_c1V (as := [.int (iI (1)), .int (iI (2))]) (rest := []) S hK hm_o_4 rfl rfl (c_X3_refuse l G H_c_2 (mc) (0) (ac) (no) (kn) (cc) (h) (True) (2) (by omega) (by first | assumption | omega) (by first | assumption | omega) (by first | assumption | omega) (by assumption) (by omega) (by omega) hw_r_3) q1184 q1186 qs10 q43 q1187 hdX3_refuse ⟨by decide, by decide⟩ hl.1 rfl rfl (Nat.le_of_ble_eq_true rfl) ⟨Nat.le_of_ble_eq_true rfl, Nat.le_of_ble_eq_true rfl⟩ hS (fun q e => Or.inl (Or.inl e)) (fun q z => Or.inr z) dX3_most_39 (fun rv_c_12 H_c_12 locs hp_c_12 k_c_12 hS => ?_)
      have kw := kw.then k_c_12 (fun q e _ => Or.inl e)
      have hK := hK.keep k_c_12 (fun q e => by have e : q = h := e; omega)
      obtain ⟨th_r_13, hth_r_13, rfl, hw_r_13⟩ := hp_c_12
      have hth_r_13 : ((0 : Int) = 0 ∧ th_r_13 = (2)) ∨ ((0 : Int) ≠ 0 ∧ th_r_13 = (0)) := hth_r_13.elim (fun z => Or.inl ⟨z.1.2, z.2⟩) (fun z => Or.inr ⟨fun y => z.1 ⟨trivial, y⟩, z.2⟩)
      refine W.eq (g2 := F0 m 42 ls [.int (iI (b2i (0 < (th_r_13))))]) rfl ?_
      refine xi_ifb_eq (tgt := 47) hx hb dX3_most_42 (by decide) (fun c_42 => ?_) (fun c_42 => ?_)
      · skip
        obtain rfl : th_r_13 = 0 := by omega
        refine lv_aload_n hx hb dX3_most_47 rfl (lv_at hl 0 rfl) ?_
        have hw_o_14 := hw_r_13
        obtain ⟨rb_o_14, hm_o_14, hq_o_14, hr_o_14, hza_o_14, hzc_o_14⟩ := hw_o_14
        refine x_get S hK in_X3 hm_o_14 rfl 4 (by decide) q1152 (fun x h => h) rfl dX3_most_48 ?_
        refine lv_iload_n hx hb dX3_most_51 rfl (lv_at hl 1 rfl) ?_
        refine x_aald S hK 3 rfl rfl hq_o_14 (by omega) (by omega) rfl dX3_most_52 ?_
        have hr_w_15 := hr_o_14 (i).toNat (by omega)
        have hbw_w_15 := hbc (i).toNat (by omega)
        refine xi_iconst hx hb dX3_most_53 ?_
        refine x_iald (w := (cc (i).toNat).1) S hK hr_w_15 (by omega) (by decide) rfl dX3_most_54 ?_
        refine xi_if_eq (tgt := 69) hx hb dX3_most_55 (by decide) (by omega) (fun c_55 => ?_) (fun c_55 => ?_)
        · skip
          refine xi_iconst hx hb dX3_most_69 ?_
          refine lv_goto (tgt := 74) hx hb dX3_most_70 (by decide) ?_
          refine x_ret1i hx hb hr hlk hH hS (by omega) (by omega) ?_ dX3_most_74
          first | (exfalso; omega) | exact ⟨(_, _, _, _, _), (by unfold op_most; (repeat (first | with_reducible refine ifp (by omega) ?_ | with_reducible refine ifn (by omega) ?_)); first | rfl | exact comeF_s (by assumption) | exact comeF_n (by assumption) | exact comeF_s (if_pos (by omega)) | exact comeF_n (if_neg (by omega))), rfl, ⟨rb_o_14, hm_o_14, hq_o_14, hr_o_14, hza_o_14, hzc_o_14⟩⟩
        · skip
          refine lv_aload_n hx hb dX3_most_58 rfl (lv_at hl 0 rfl) ?_
          refine x_get S hK in_X3 hm_o_14 rfl 4 (by decide) q1152 (fun x h => h) rfl dX3_most_59 ?_
          refine lv_iload_n hx hb dX3_most_62 rfl (lv_at hl 2 rfl) ?_
          refine x_aald S hK 3 rfl rfl hq_o_14 (by omega) (by omega) rfl dX3_most_63 ?_
          have hr_w_16 := hr_o_14 (j).toNat (by omega)
          have hbw_w_16 := hbc (j).toNat (by omega)
          refine xi_iconst hx hb dX3_most_64 ?_
          refine x_iald (w := (cc (j).toNat).1) S hK hr_w_16 (by omega) (by decide) rfl dX3_most_65 ?_
          refine xi_if_ne (tgt := 73) hx hb dX3_most_66 (by decide) (by omega) (fun c_66 => ?_) (fun c_66 => ?_)
          · skip
            refine xi_iconst hx hb dX3_most_73 ?_
            refine x_ret1i hx hb hr hlk hH hS (by omega) (by omega) ?_ dX3_most_74
            first | (exfalso; omega) | exact ⟨(_, _, _, _, _), (by unfold op_most; (repeat (first | with_reducible refine ifp (by omega) ?_ | with_reducible refine ifn (by omega) ?_)); first | rfl | exact comeF_s (by assumption) | exact comeF_n (by assumption) | exact comeF_s (if_pos (by omega)) | exact comeF_n (if_neg (by omega))), rfl, ⟨rb_o_14, hm_o_14, hq_o_14, hr_o_14, hza_o_14, hzc_o_14⟩⟩
          · skip
            refine xi_iconst hx hb dX3_most_69 ?_
            refine lv_goto (tgt := 74) hx hb dX3_most_70 (by decide) ?_
            refine x_ret1i hx hb hr hlk hH hS (by omega) (by omega) ?_ dX3_most_74
            first | (exfalso; omega) | exact ⟨(_, _, _, _, _), (by unfold op_most; (repeat (first | with_reducible refine ifp (by omega) ?_ | with_reducible refine ifn (by omega) ?_)); first | rfl | exact comeF_s (by assumption) | exact comeF_n (by assumption) | exact comeF_s (if_pos (by omega)) | exact comeF_n (if_neg (by omega))), rfl, ⟨rb_o_14, hm_o_14, hq_o_14, hr_o_14, hza_o_14, hzc_o_14⟩⟩
      · skip
        obtain rfl : th_r_13 = 2 := by omega
        refine xi_iconst hx hb dX3_most_45 ?_
        refine x_ret1i hx hb hr hlk hH hS (by omega) (by omega) ?_ dX3_most_46
        first | (exfalso; omega) | exact ⟨(_, _, _, _, _), (by unfold op_most; (repeat (first | with_reducible refine ifp (by omega) ?_ | with_reducible refine ifn (by omega) ?_)); first | rfl | exact comeF_s (by assumption) | exact comeF_n (by assumption) | exact comeF_s (if_pos (by omega)) | exact comeF_n (if_neg (by omega))), rfl, hw_r_13⟩

theorem hpX3_isWithin : plainFor yX3_isWithin = true := by decide +kernel
theorem hdX3_isWithin : nMH yX3_isWithin 2 := by decide +kernel
set_option maxHeartbeats 4000000 in
theorem c_X3_isWithin (l : Launch) (G : GG) (H0 : Heap) (mc : Nat) (th : Int) (ac : Int) (no : Int) (kn : Int) (cc : Nat → Row) (h : Nat) (i : Int) (j : Int) (r_i : -2147483648 ≤ i ∧ i < 2147483648) (r_j : -2147483648 ≤ j ∧ j < 2147483648) (hac : 0 ≤ ac ∧ ac ≤ 1000) (hno : 0 ≤ no ∧ no ≤ 1000) (hkn : 0 ≤ kn ∧ kn ≤ 1000) (hok : ∀ k : Nat, k < 8 → okR (cc k)) (hw : MW G (h) (mc) (th) (ac) (no) (kn) (cc) H0) : Ct1 l G yX3_isWithin cX3_isWithin 3 (Option.some Jvm.ClassFile.FieldType.boolean) 3 0 0 67 [.ref (h), .int (iI (i)), .int (iI (j))] H0 (fun q => q = h ∨ q = mc) (fun (rv : Option Value) (H1 : Heap) => ∃ z : Res, op_isWithin ac no cc (i) (j) = z ∧ rv = some (.int (iI z.2.1)) ∧ MW G h mc z.1 z.2.2.1 z.2.2.2.1 kn z.2.2.2.2 H1) := by
  refine Ct1.start hpX3_isWithin (Nat.le_of_ble_eq_true rfl) ?_
  intro p e s m below meth c ls hx hb hr S hlk hname hH hK hS hl
  have hl : lv_has ls 3 [(0, .ref (h)), (1, .int (iI (i))), (2, .int (iI (j)))] := hl
  have hbc : ∀ k : Nat, k < 8 → bRow (cc k) := fun k h => okR_b (hok k h)
  have kw : Keep (fun q => q = h ∨ q = mc) H0 H0 := Keep.rf
  have hz0 := hK.2.2.1
  refine lv_aload_n hx hb dX3_isWithin_0 rfl (lv_at hl 0 rfl) ?_
  refine lv_aload_n hx hb dX3_isWithin_1 rfl (lv_at hl 0 rfl) ?_
  refine lv_iload_n hx hb dX3_isWithin_2 rfl (lv_at hl 1 rfl) ?_
  refine lv_iload_n hx hb dX3_isWithin_3 rfl (lv_at hl 2 rfl) ?_
  have hw_o_1 := hw
  obtain ⟨rb_o_1, hm_o_1, hq_o_1, hr_o_1, hza_o_1, hzc_o_1⟩ := hw_o_1
  refine x_c0V (as := [.int (iI (i)), .int (iI (j))]) (rest := [.ref (h)]) S hK hm_o_1 rfl rfl (c_X3_areNoCells l G H0 (h) (i) (j) (by omega) (by omega) ) q1690 q1692 qs34 q43 q1693 hdX3_areNoCells ⟨by decide, by decide⟩ hl.1 rfl rfl (Nat.le_of_ble_eq_true rfl) ⟨Nat.le_of_ble_eq_true rfl, Nat.le_of_ble_eq_true rfl⟩ dX3_isWithin_4 ?_
  refine xi_iconst hx hb dX3_isWithin_7 ?_
  refine x_c1V (as := [.int (iI (b2i (¬ (0 ≤ (i) ∧ (i) ≤ 7) ∨ ¬ (0 ≤ (j) ∧ (j) ≤ 7)))), .int (iI (1))]) (rest := []) S hK hm_o_1 rfl rfl (c_X3_start l G H0 (mc) (th) (ac) (no) (kn) (cc) (h) (¬ (0 ≤ (i) ∧ (i) ≤ 7) ∨ ¬ (0 ≤ (j) ∧ (j) ≤ 7)) (1) (by omega) (by first | assumption | omega) (by first | assumption | omega) (by first | assumption | omega) (by assumption) (by omega) hw) q1180 q1182 qs9 q43 q1183 hdX3_start ⟨by decide, by decide⟩ hl.1 rfl rfl (Nat.le_of_ble_eq_true rfl) ⟨Nat.le_of_ble_eq_true rfl, Nat.le_of_ble_eq_true rfl⟩ hS (fun q e => Or.inl (Or.inl e)) (fun q z => Or.inr z) dX3_isWithin_8 (fun rv_c_2 H_c_2 locs hp_c_2 k_c_2 hS => ?_)
  have kw := kw.then k_c_2 (fun q e _ => Or.inl e)
  have hK := hK.keep k_c_2 (fun q e => by have e : q = h := e; omega)
  obtain ⟨th_r_3, hth_r_3, rfl, hw_r_3⟩ := hp_c_2
  refine W.eq (g2 := F0 m 11 ls [.int (iI (b2i (0 < (th_r_3))))]) rfl ?_
  refine xi_ifb_ne (tgt := 49) hx hb dX3_isWithin_11 (by decide) (fun c_11 => ?_) (fun c_11 => ?_)
  · skip
    obtain rfl : th_r_3 = 1 := by omega
    refine xi_iconst hx hb dX3_isWithin_49 ?_
    refine x_ret1z (E := False) hx hb hr hlk hH hS (by omega) (by omega) rfl ?_ dX3_isWithin_50
    first | (exfalso; omega) | exact ⟨(_, _, _, _, _), (by unfold op_isWithin; (repeat (first | with_reducible refine ifp (by omega) ?_ | with_reducible refine ifn (by omega) ?_)); first | rfl | exact comeF_s (by assumption) | exact comeF_n (by assumption) | exact comeF_s (if_pos (by omega)) | exact comeF_n (if_neg (by omega))), rfl, hw_r_3⟩
  · skip
    obtain rfl : th_r_3 = 0 := by omega
    refine lv_aload_n hx hb dX3_isWithin_14 rfl (lv_at hl 0 rfl) ?_
    refine lv_aload_n hx hb dX3_isWithin_15 rfl (lv_at hl 0 rfl) ?_
    have hw_o_4 := hw_r_3
    obtain ⟨rb_o_4, hm_o_4, hq_o_4, hr_o_4, hza_o_4, hzc_o_4⟩ := hw_o_4
    refine x_get S hK in_X3 hm_o_4 rfl 4 (by decide) q1152 (fun x h => h) rfl dX3_isWithin_16 ?_
    refine lv_iload_n hx hb dX3_isWithin_19 rfl (lv_at hl 1 rfl) ?_
    refine x_aald S hK 3 rfl rfl hq_o_4 (by omega) (by omega) rfl dX3_isWithin_20 ?_
    have hr_w_5 := hr_o_4 (i).toNat (by omega)
    have hbw_w_5 := hbc (i).toNat (by omega)
    refine lv_aload_n hx hb dX3_isWithin_21 rfl (lv_at hl 0 rfl) ?_
    refine x_get S hK in_X3 hm_o_4 rfl 4 (by decide) q1152 (fun x h => h) rfl dX3_isWithin_22 ?_
    refine lv_iload_n hx hb dX3_isWithin_25 rfl (lv_at hl 2 rfl) ?_
    refine x_aald S hK 3 rfl rfl hq_o_4 (by omega) (by omega) rfl dX3_isWithin_26 ?_
    have hr_w_6 := hr_o_4 (j).toNat (by omega)
    have hbw_w_6 := hbc (j).toNat (by omega)
    refine x_c0S (as := [.ref ((rb_o_4) ((i).toNat)), .ref ((rb_o_4) ((j).toNat))]) (rest := [.ref (h)]) S hK (c_X3_isNear l G H_c_2 (cc (i).toNat) (cc (j).toNat) ((rb_o_4) ((i).toNat)) ((rb_o_4) ((j).toNat)) (by first | assumption | (apply hbc; omega)) (by first | assumption | (apply hbc; omega)) hr_w_5 hr_w_6) q1698 q1699 q43 q1700 hdX3_isNear ⟨by decide, by decide⟩ hl.1 rfl rfl (Nat.le_of_ble_eq_true rfl) ⟨Nat.le_of_ble_eq_true rfl, Nat.le_of_ble_eq_true rfl⟩ dX3_isWithin_27 ?_
    refine xi_ifb_ne (tgt := 37) hx hb dX3_isWithin_30 (by decide) (fun c_30 => ?_) (fun c_30 => ?_)
    · skip
      refine xi_iconst hx hb dX3_isWithin_37 ?_
      refine xi_iconst hx hb dX3_isWithin_38 ?_
      refine x_c1V (as := [.int (iI (0)), .int (iI (2))]) (rest := []) S hK hm_o_4 rfl rfl (c_X3_refuse l G H_c_2 (mc) (0) (ac) (no) (kn) (cc) (h) (False) (2) (by omega) (by first | assumption | omega) (by first | assumption | omega) (by first | assumption | omega) (by assumption) (by omega) (by omega) hw_r_3) q1184 q1186 qs10 q43 q1187 hdX3_refuse ⟨by decide, by decide⟩ hl.1 rfl rfl (Nat.le_of_ble_eq_true rfl) ⟨Nat.le_of_ble_eq_true rfl, Nat.le_of_ble_eq_true rfl⟩ hS (fun q e => Or.inl (Or.inl e)) (fun q z => Or.inr z) dX3_isWithin_39 (fun rv_c_7 H_c_7 locs hp_c_7 k_c_7 hS => ?_)
      have kw := kw.then k_c_7 (fun q e _ => Or.inl e)
      have hK := hK.keep k_c_7 (fun q e => by have e : q = h := e; omega)
      obtain ⟨th_r_8, hth_r_8, rfl, hw_r_8⟩ := hp_c_7
      have hth_r_8 := hth_r_8.elim (fun z => z.1.1.elim) (fun z => z.2)
      refine W.eq (g2 := F0 m 42 ls [.int (iI (b2i (0 < (th_r_8))))]) rfl ?_
      refine xi_ifb_ne (tgt := 49) hx hb dX3_isWithin_42 (by decide) (fun c_42 => ?_) (fun c_42 => ?_)
      · skip
        obtain rfl : th_r_8 = 2 := by omega
        refine xi_iconst hx hb dX3_isWithin_49 ?_
        refine x_ret1z (E := False) hx hb hr hlk hH hS (by omega) (by omega) rfl ?_ dX3_isWithin_50
        first | (exfalso; omega) | exact ⟨(_, _, _, _, _), (by unfold op_isWithin; (repeat (first | with_reducible refine ifp (by omega) ?_ | with_reducible refine ifn (by omega) ?_)); first | rfl | exact comeF_s (by assumption) | exact comeF_n (by assumption) | exact comeF_s (if_pos (by omega)) | exact comeF_n (if_neg (by omega))), rfl, hw_r_8⟩
      · skip
        obtain rfl : th_r_8 = 0 := by omega
        refine xi_iconst hx hb dX3_isWithin_45 ?_
        refine lv_goto (tgt := 50) hx hb dX3_isWithin_46 (by decide) ?_
        refine x_ret1z (E := True) hx hb hr hlk hH hS (by omega) (by omega) rfl ?_ dX3_isWithin_50
        first | (exfalso; omega) | exact ⟨(_, _, _, _, _), (by unfold op_isWithin; (repeat (first | with_reducible refine ifp (by omega) ?_ | with_reducible refine ifn (by omega) ?_)); first | rfl | exact comeF_s (by assumption) | exact comeF_n (by assumption) | exact comeF_s (if_pos (by omega)) | exact comeF_n (if_neg (by omega))), rfl, hw_r_8⟩
    · skip
      refine xi_iconst hx hb dX3_isWithin_33 ?_
      refine lv_goto (tgt := 38) hx hb dX3_isWithin_34 (by decide) ?_
      refine xi_iconst hx hb dX3_isWithin_38 ?_
      refine x_c1V (as := [.int (iI (1)), .int (iI (2))]) (rest := []) S hK hm_o_4 rfl rfl (c_X3_refuse l G H_c_2 (mc) (0) (ac) (no) (kn) (cc) (h) (True) (2) (by omega) (by first | assumption | omega) (by first | assumption | omega) (by first | assumption | omega) (by assumption) (by omega) (by omega) hw_r_3) q1184 q1186 qs10 q43 q1187 hdX3_refuse ⟨by decide, by decide⟩ hl.1 rfl rfl (Nat.le_of_ble_eq_true rfl) ⟨Nat.le_of_ble_eq_true rfl, Nat.le_of_ble_eq_true rfl⟩ hS (fun q e => Or.inl (Or.inl e)) (fun q z => Or.inr z) dX3_isWithin_39 (fun rv_c_9 H_c_9 locs hp_c_9 k_c_9 hS => ?_)
      have kw := kw.then k_c_9 (fun q e _ => Or.inl e)
      have hK := hK.keep k_c_9 (fun q e => by have e : q = h := e; omega)
      obtain ⟨th_r_10, hth_r_10, rfl, hw_r_10⟩ := hp_c_9
      have hth_r_10 : ((0 : Int) = 0 ∧ th_r_10 = (2)) ∨ ((0 : Int) ≠ 0 ∧ th_r_10 = (0)) := hth_r_10.elim (fun z => Or.inl ⟨z.1.2, z.2⟩) (fun z => Or.inr ⟨fun y => z.1 ⟨trivial, y⟩, z.2⟩)
      refine W.eq (g2 := F0 m 42 ls [.int (iI (b2i (0 < (th_r_10))))]) rfl ?_
      refine xi_ifb_ne (tgt := 49) hx hb dX3_isWithin_42 (by decide) (fun c_42 => ?_) (fun c_42 => ?_)
      · skip
        obtain rfl : th_r_10 = 2 := by omega
        refine xi_iconst hx hb dX3_isWithin_49 ?_
        refine x_ret1z (E := False) hx hb hr hlk hH hS (by omega) (by omega) rfl ?_ dX3_isWithin_50
        first | (exfalso; omega) | exact ⟨(_, _, _, _, _), (by unfold op_isWithin; (repeat (first | with_reducible refine ifp (by omega) ?_ | with_reducible refine ifn (by omega) ?_)); first | rfl | exact comeF_s (by assumption) | exact comeF_n (by assumption) | exact comeF_s (if_pos (by omega)) | exact comeF_n (if_neg (by omega))), rfl, hw_r_10⟩
      · skip
        obtain rfl : th_r_10 = 0 := by omega
        refine xi_iconst hx hb dX3_isWithin_45 ?_
        refine lv_goto (tgt := 50) hx hb dX3_isWithin_46 (by decide) ?_
        refine x_ret1z (E := True) hx hb hr hlk hH hS (by omega) (by omega) rfl ?_ dX3_isWithin_50
        first | (exfalso; omega) | exact ⟨(_, _, _, _, _), (by unfold op_isWithin; (repeat (first | with_reducible refine ifp (by omega) ?_ | with_reducible refine ifn (by omega) ?_)); first | rfl | exact comeF_s (by assumption) | exact comeF_n (by assumption) | exact comeF_s (if_pos (by omega)) | exact comeF_n (if_neg (by omega))), rfl, hw_r_10⟩

theorem hpX3_find : plainFor yX3_find = true := by decide +kernel
theorem hdX3_find : nMH yX3_find 2 := by decide +kernel
set_option maxHeartbeats 4000000 in
theorem c_X3_find (l : Launch) (G : GG) (H0 : Heap) (mc : Nat) (th : Int) (ac : Int) (no : Int) (kn : Int) (cc : Nat → Row) (h : Nat) (k : Int) (P : Prop) [Decidable P] (r_k : -2147483648 ≤ k ∧ k < 2147483648) (hac : 0 ≤ ac ∧ ac ≤ 1000) (hno : 0 ≤ no ∧ no ≤ 1000) (hkn : 0 ≤ kn ∧ kn ≤ 1000) (hok : ∀ k : Nat, k < 8 → okR (cc k)) (hw : MW G (h) (mc) (th) (ac) (no) (kn) (cc) H0) : Ct1 l G yX3_find cX3_find 3 (Option.some Jvm.ClassFile.FieldType.int) 2 0 0 45 [.ref (h), .int (iI (k)), .int (iI (b2i (P)))] H0 (fun q => q = h ∨ q = mc) (fun (rv : Option Value) (H1 : Heap) => ∃ z : Res, op_find ac no cc (k) (P) = z ∧ rv = some (.int (iI z.2.1)) ∧ MW G h mc z.1 z.2.2.1 z.2.2.2.1 kn z.2.2.2.2 H1) := by
  refine Ct1.start hpX3_find (Nat.le_of_ble_eq_true rfl) ?_
  intro p e s m below meth c ls hx hb hr S hlk hname hH hK hS hl
  have hl : lv_has ls 3 [(0, .ref (h)), (1, .int (iI (k))), (2, .int (iI (b2i (P))))] := hl
  have hbc : ∀ k : Nat, k < 8 → bRow (cc k) := fun k h => okR_b (hok k h)
  have kw : Keep (fun q => q = h ∨ q = mc) H0 H0 := Keep.rf
  have hz0 := hK.2.2.1
  refine lv_aload_n hx hb dX3_find_0 rfl (lv_at hl 0 rfl) ?_
  refine lv_iload_n hx hb dX3_find_1 rfl (lv_at hl 1 rfl) ?_
  refine x_c0S (as := [.int (iI (k))]) (rest := [.ref (h)]) S hK (c_X3_isNoCell l G H0 (k) (by omega) ) q1173 q1174 q43 q1175 hdX3_isNoCell ⟨by decide, by decide⟩ hl.1 rfl rfl (Nat.le_of_ble_eq_true rfl) ⟨Nat.le_of_ble_eq_true rfl, Nat.le_of_ble_eq_true rfl⟩ dX3_find_2 ?_
  refine xi_iconst hx hb dX3_find_5 ?_
  have hw_o_1 := hw
  obtain ⟨rb_o_1, hm_o_1, hq_o_1, hr_o_1, hza_o_1, hzc_o_1⟩ := hw_o_1
  refine x_c1V (as := [.int (iI (b2i (¬ (0 ≤ (k) ∧ (k) ≤ 7)))), .int (iI (1))]) (rest := []) S hK hm_o_1 rfl rfl (c_X3_start l G H0 (mc) (th) (ac) (no) (kn) (cc) (h) (¬ (0 ≤ (k) ∧ (k) ≤ 7)) (1) (by omega) (by first | assumption | omega) (by first | assumption | omega) (by first | assumption | omega) (by assumption) (by omega) hw) q1180 q1182 qs9 q43 q1183 hdX3_start ⟨by decide, by decide⟩ hl.1 rfl rfl (Nat.le_of_ble_eq_true rfl) ⟨Nat.le_of_ble_eq_true rfl, Nat.le_of_ble_eq_true rfl⟩ hS (fun q e => Or.inl (Or.inl e)) (fun q z => Or.inr z) dX3_find_6 (fun rv_c_2 H_c_2 locs hp_c_2 k_c_2 hS => ?_)
  have kw := kw.then k_c_2 (fun q e _ => Or.inl e)
  have hK := hK.keep k_c_2 (fun q e => by have e : q = h := e; omega)
  obtain ⟨th_r_3, hth_r_3, rfl, hw_r_3⟩ := hp_c_2
  refine W.eq (g2 := F0 m 9 ls [.int (iI (b2i (0 < (th_r_3))))]) rfl ?_
  refine xi_ifb_eq (tgt := 16) hx hb dX3_find_9 (by decide) (fun c_9 => ?_) (fun c_9 => ?_)
  · skip
    obtain rfl : th_r_3 = 0 := by omega
    refine lv_aload_n hx hb dX3_find_16 rfl (lv_at hl 0 rfl) ?_
    refine lv_iload_n hx hb dX3_find_17 rfl (lv_at hl 1 rfl) ?_
    refine lv_iload_n hx hb dX3_find_18 rfl (lv_at hl 2 rfl) ?_
    have hw_o_4 := hw_r_3
    obtain ⟨rb_o_4, hm_o_4, hq_o_4, hr_o_4, hza_o_4, hzc_o_4⟩ := hw_o_4
    refine x_c0V (as := [.int (iI (k)), .int (iI (b2i (P)))]) (rest := []) S hK hm_o_4 rfl rfl (c_X3_findTold l G H_c_2 (mc) (0) (ac) (no) (kn) (cc) (h) (k) (P) (by omega) (by first | assumption | omega) (by first | assumption | omega) (by first | assumption | omega) (by assumption) (by omega) hw_r_3) q1721 q1723 qs36 q43 q1724 hdX3_findTold ⟨by decide, by decide⟩ hl.1 rfl rfl (Nat.le_of_ble_eq_true rfl) ⟨Nat.le_of_ble_eq_true rfl, Nat.le_of_ble_eq_true rfl⟩ dX3_find_19 ?_
    refine x_ret1i hx hb hr hlk hH hS (by omega) (by omega) ?_ dX3_find_22
    first | (exfalso; omega) | exact ⟨(_, _, _, _, _), (by unfold op_find; (repeat (first | with_reducible refine ifp (by omega) ?_ | with_reducible refine ifn (by omega) ?_)); first | rfl | exact comeF_s (by assumption) | exact comeF_n (by assumption) | exact comeF_s (if_pos (by omega)) | exact comeF_n (if_neg (by omega))), rfl, ⟨rb_o_4, hm_o_4, hq_o_4, hr_o_4, hza_o_4, hzc_o_4⟩⟩
  · skip
    obtain rfl : th_r_3 = 1 := by omega
    refine xi_iconst hx hb dX3_find_12 ?_
    refine lv_goto (tgt := 22) hx hb dX3_find_13 (by decide) ?_
    refine x_ret1i hx hb hr hlk hH hS (by omega) (by omega) ?_ dX3_find_22
    first | (exfalso; omega) | exact ⟨(_, _, _, _, _), (by unfold op_find; (repeat (first | with_reducible refine ifp (by omega) ?_ | with_reducible refine ifn (by omega) ?_)); first | rfl | exact comeF_s (by assumption) | exact comeF_n (by assumption) | exact comeF_s (if_pos (by omega)) | exact comeF_n (if_neg (by omega))), rfl, hw_r_3⟩

theorem hpX3_rank : plainFor yX3_rank = true := by decide +kernel
theorem hdX3_rank : nMH yX3_rank 1 := by decide +kernel
set_option maxHeartbeats 4000000 in
theorem c_X3_rank (l : Launch) (G : GG) (H0 : Heap) (mc : Nat) (th : Int) (ac : Int) (no : Int) (kn : Int) (cc : Nat → Row) (h : Nat) (k : Int) (r_k : -2147483648 ≤ k ∧ k < 2147483648) (hac : 0 ≤ ac ∧ ac ≤ 1000) (hno : 0 ≤ no ∧ no ≤ 1000) (hkn : 0 ≤ kn ∧ kn ≤ 1000) (hok : ∀ k : Nat, k < 8 → okR (cc k)) (hw : MW G (h) (mc) (th) (ac) (no) (kn) (cc) H0) : Ct1 l G yX3_rank cX3_rank 2 (Option.some Jvm.ClassFile.FieldType.int) 3 0 0 65 [.ref (h), .int (iI (k))] H0 (fun q => q = h ∨ q = mc) (fun (rv : Option Value) (H1 : Heap) => ∃ z : Res, op_rank ac no cc (k) = z ∧ rv = some (.int (iI z.2.1)) ∧ MW G h mc z.1 z.2.2.1 z.2.2.2.1 kn z.2.2.2.2 H1) := by
  refine Ct1.start hpX3_rank (Nat.le_of_ble_eq_true rfl) ?_
  intro p e s m below meth c ls hx hb hr S hlk hname hH hK hS hl
  have hl : lv_has ls 2 [(0, .ref (h)), (1, .int (iI (k)))] := hl
  have hbc : ∀ k : Nat, k < 8 → bRow (cc k) := fun k h => okR_b (hok k h)
  have kw : Keep (fun q => q = h ∨ q = mc) H0 H0 := Keep.rf
  have hz0 := hK.2.2.1
  refine lv_aload_n hx hb dX3_rank_0 rfl (lv_at hl 0 rfl) ?_
  refine lv_iload_n hx hb dX3_rank_1 rfl (lv_at hl 1 rfl) ?_
  refine x_c0S (as := [.int (iI (k))]) (rest := [.ref (h)]) S hK (c_X3_isNoCell l G H0 (k) (by omega) ) q1173 q1174 q43 q1175 hdX3_isNoCell ⟨by decide, by decide⟩ hl.1 rfl rfl (Nat.le_of_ble_eq_true rfl) ⟨Nat.le_of_ble_eq_true rfl, Nat.le_of_ble_eq_true rfl⟩ dX3_rank_2 ?_
  refine xi_iconst hx hb dX3_rank_5 ?_
  have hw_o_1 := hw
  obtain ⟨rb_o_1, hm_o_1, hq_o_1, hr_o_1, hza_o_1, hzc_o_1⟩ := hw_o_1
  refine x_c1V (as := [.int (iI (b2i (¬ (0 ≤ (k) ∧ (k) ≤ 7)))), .int (iI (1))]) (rest := []) S hK hm_o_1 rfl rfl (c_X3_start l G H0 (mc) (th) (ac) (no) (kn) (cc) (h) (¬ (0 ≤ (k) ∧ (k) ≤ 7)) (1) (by omega) (by first | assumption | omega) (by first | assumption | omega) (by first | assumption | omega) (by assumption) (by omega) hw) q1180 q1182 qs9 q43 q1183 hdX3_start ⟨by decide, by decide⟩ hl.1 rfl rfl (Nat.le_of_ble_eq_true rfl) ⟨Nat.le_of_ble_eq_true rfl, Nat.le_of_ble_eq_true rfl⟩ hS (fun q e => Or.inl (Or.inl e)) (fun q z => Or.inr z) dX3_rank_6 (fun rv_c_2 H_c_2 locs hp_c_2 k_c_2 hS => ?_)
  have kw := kw.then k_c_2 (fun q e _ => Or.inl e)
  have hK := hK.keep k_c_2 (fun q e => by have e : q = h := e; omega)
  obtain ⟨th_r_3, hth_r_3, rfl, hw_r_3⟩ := hp_c_2
  refine W.eq (g2 := F0 m 9 ls [.int (iI (b2i (0 < (th_r_3))))]) rfl ?_
  refine xi_ifb_eq (tgt := 16) hx hb dX3_rank_9 (by decide) (fun c_9 => ?_) (fun c_9 => ?_)
  · skip
    obtain rfl : th_r_3 = 0 := by omega
    refine lv_aload_n hx hb dX3_rank_16 rfl (lv_at hl 0 rfl) ?_
    refine lv_iload_n hx hb dX3_rank_17 rfl (lv_at hl 1 rfl) ?_
    refine xi_iconst hx hb dX3_rank_18 ?_
    have hw_o_4 := hw_r_3
    obtain ⟨rb_o_4, hm_o_4, hq_o_4, hr_o_4, hza_o_4, hzc_o_4⟩ := hw_o_4
    refine x_c0V (as := [.int (iI (k)), .int (iI (0))]) (rest := []) S hK hm_o_4 rfl rfl (c_X3_many l G H_c_2 (mc) (0) (ac) (no) (kn) (cc) (h) (k) (False) (by omega) (by first | assumption | omega) (by first | assumption | omega) (by first | assumption | omega) (by assumption) (by omega) hw_r_3) q1290 q1292 qs14 q43 q1293 hdX3_many ⟨by decide, by decide⟩ hl.1 rfl rfl (Nat.le_of_ble_eq_true rfl) ⟨Nat.le_of_ble_eq_true rfl, Nat.le_of_ble_eq_true rfl⟩ dX3_rank_19 ?_
    refine x_ret1i hx hb hr hlk hH hS (by omega) (by omega) ?_ dX3_rank_22
    first | (exfalso; omega) | exact ⟨(_, _, _, _, _), (by unfold op_rank; (repeat (first | with_reducible refine ifp (by omega) ?_ | with_reducible refine ifn (by omega) ?_)); first | rfl | exact comeF_s (by assumption) | exact comeF_n (by assumption) | exact comeF_s (if_pos (by omega)) | exact comeF_n (if_neg (by omega))), rfl, ⟨rb_o_4, hm_o_4, hq_o_4, hr_o_4, hza_o_4, hzc_o_4⟩⟩
  · skip
    obtain rfl : th_r_3 = 1 := by omega
    refine xi_iconst hx hb dX3_rank_12 ?_
    refine lv_goto (tgt := 22) hx hb dX3_rank_13 (by decide) ?_
    refine x_ret1i hx hb hr hlk hH hS (by omega) (by omega) ?_ dX3_rank_22
    first | (exfalso; omega) | exact ⟨(_, _, _, _, _), (by unfold op_rank; (repeat (first | with_reducible refine ifp (by omega) ?_ | with_reducible refine ifn (by omega) ?_)); first | rfl | exact comeF_s (by assumption) | exact comeF_n (by assumption) | exact comeF_s (if_pos (by omega)) | exact comeF_n (if_neg (by omega))), rfl, hw_r_3⟩

theorem hpX3_wholePart : plainFor yX3_wholePart = true := by decide +kernel
theorem hdX3_wholePart : nMH yX3_wholePart 1 := by decide +kernel
set_option maxHeartbeats 4000000 in
theorem c_X3_wholePart (l : Launch) (G : GG) (H0 : Heap) (mc : Nat) (th : Int) (ac : Int) (no : Int) (kn : Int) (cc : Nat → Row) (h : Nat) (n : Int) (r_n : -2147483648 ≤ n ∧ n < 2147483648) (hac : 0 ≤ ac ∧ ac ≤ 1000) (hno : 0 ≤ no ∧ no ≤ 1000) (hkn : 0 ≤ kn ∧ kn ≤ 1000) (hok : ∀ k : Nat, k < 8 → okR (cc k)) (hw : MW G (h) (mc) (th) (ac) (no) (kn) (cc) H0) : Ct1 l G yX3_wholePart cX3_wholePart 2 (Option.some Jvm.ClassFile.FieldType.int) 2 0 0 44 [.ref (h), .int (iI (n))] H0 (fun q => q = h ∨ q = mc) (fun (rv : Option Value) (H1 : Heap) => ∃ z : Res, op_wholePart ac no cc (n) = z ∧ rv = some (.int (iI z.2.1)) ∧ MW G h mc z.1 z.2.2.1 z.2.2.2.1 kn z.2.2.2.2 H1) := by
  refine Ct1.start hpX3_wholePart (Nat.le_of_ble_eq_true rfl) ?_
  intro p e s m below meth c ls hx hb hr S hlk hname hH hK hS hl
  have hl : lv_has ls 2 [(0, .ref (h)), (1, .int (iI (n)))] := hl
  have hbc : ∀ k : Nat, k < 8 → bRow (cc k) := fun k h => okR_b (hok k h)
  have kw : Keep (fun q => q = h ∨ q = mc) H0 H0 := Keep.rf
  have hz0 := hK.2.2.1
  refine lv_aload_n hx hb dX3_wholePart_0 rfl (lv_at hl 0 rfl) ?_
  refine lv_iload_n hx hb dX3_wholePart_1 rfl (lv_at hl 1 rfl) ?_
  refine xi_i2l hx hb (by omega) dX3_wholePart_2 ?_
  refine xi_lconst (z := 0) hx hb (by decide +kernel) dX3_wholePart_3 ?_
  refine xi_ldc2 (z := 65535) hx hb S.2.2.2.1 S.2.2.2.2 q1189 (by decide +kernel) dX3_wholePart_4 ?_
  refine x_c0S (as := [.long (jI (n)), .long (jI (0)), .long (jI (65535))]) (rest := [.ref (h)]) S hK (c_X3_isIn l G H0 (n) (0) (65535) (by omega) (by omega) (by omega) ) q1177 q1178 q43 q1179 hdX3_isIn ⟨by decide, by decide⟩ hl.1 rfl rfl (Nat.le_of_ble_eq_true rfl) ⟨Nat.le_of_ble_eq_true rfl, Nat.le_of_ble_eq_true rfl⟩ dX3_wholePart_7 ?_
  refine xi_ifb_ne (tgt := 17) hx hb dX3_wholePart_10 (by decide) (fun c_10 => ?_) (fun c_10 => ?_)
  · skip
    refine xi_iconst hx hb dX3_wholePart_17 ?_
    refine xi_iconst hx hb dX3_wholePart_18 ?_
    have hw_o_1 := hw
    obtain ⟨rb_o_1, hm_o_1, hq_o_1, hr_o_1, hza_o_1, hzc_o_1⟩ := hw_o_1
    refine x_c1V (as := [.int (iI (0)), .int (iI (1))]) (rest := []) S hK hm_o_1 rfl rfl (c_X3_start l G H0 (mc) (th) (ac) (no) (kn) (cc) (h) (False) (1) (by omega) (by first | assumption | omega) (by first | assumption | omega) (by first | assumption | omega) (by assumption) (by omega) hw) q1180 q1182 qs9 q43 q1183 hdX3_start ⟨by decide, by decide⟩ hl.1 rfl rfl (Nat.le_of_ble_eq_true rfl) ⟨Nat.le_of_ble_eq_true rfl, Nat.le_of_ble_eq_true rfl⟩ hS (fun q e => Or.inl (Or.inl e)) (fun q z => Or.inr z) dX3_wholePart_19 (fun rv_c_2 H_c_2 locs hp_c_2 k_c_2 hS => ?_)
    have kw := kw.then k_c_2 (fun q e _ => Or.inl e)
    have hK := hK.keep k_c_2 (fun q e => by have e : q = h := e; omega)
    obtain ⟨th_r_3, hth_r_3, rfl, hw_r_3⟩ := hp_c_2
    have hth_r_3 := hth_r_3.elim (fun z => z.1.elim) (fun z => z.2)
    refine W.eq (g2 := F0 m 22 ls [.int (iI (b2i (0 < (th_r_3))))]) rfl ?_
    refine xi_ifb_eq (tgt := 29) hx hb dX3_wholePart_22 (by decide) (fun c_22 => ?_) (fun c_22 => ?_)
    · skip
      obtain rfl : th_r_3 = 0 := by omega
      refine lv_iload_n hx hb dX3_wholePart_29 rfl (lv_at hl 1 rfl) ?_
      refine x_c0S (as := [.int (iI (n))]) (rest := []) S hK (c_X3_cubes l G H_c_2 (n) (by omega) (by omega) ) q1737 q1738 q43 q1739 hdX3_cubes ⟨by decide, by decide⟩ hl.1 rfl rfl (Nat.le_of_ble_eq_true rfl) ⟨Nat.le_of_ble_eq_true rfl, Nat.le_of_ble_eq_true rfl⟩ dX3_wholePart_30 ?_
      refine x_ret1i hx hb hr hlk hH hS (by omega) (by omega) ?_ dX3_wholePart_33
      first | (exfalso; omega) | exact ⟨(_, _, _, _, _), (by unfold op_wholePart; (repeat (first | with_reducible refine ifp (by omega) ?_ | with_reducible refine ifn (by omega) ?_)); first | rfl | exact comeF_s (by assumption) | exact comeF_n (by assumption) | exact comeF_s (if_pos (by omega)) | exact comeF_n (if_neg (by omega))), rfl, hw_r_3⟩
    · skip
      obtain rfl : th_r_3 = 1 := by omega
      refine xi_iconst hx hb dX3_wholePart_25 ?_
      refine lv_goto (tgt := 33) hx hb dX3_wholePart_26 (by decide) ?_
      refine x_ret1i hx hb hr hlk hH hS (by omega) (by omega) ?_ dX3_wholePart_33
      first | (exfalso; omega) | exact ⟨(_, _, _, _, _), (by unfold op_wholePart; (repeat (first | with_reducible refine ifp (by omega) ?_ | with_reducible refine ifn (by omega) ?_)); first | rfl | exact comeF_s (by assumption) | exact comeF_n (by assumption) | exact comeF_s (if_pos (by omega)) | exact comeF_n (if_neg (by omega))), rfl, hw_r_3⟩
  · skip
    refine xi_iconst hx hb dX3_wholePart_13 ?_
    refine lv_goto (tgt := 18) hx hb dX3_wholePart_14 (by decide) ?_
    refine xi_iconst hx hb dX3_wholePart_18 ?_
    have hw_o_4 := hw
    obtain ⟨rb_o_4, hm_o_4, hq_o_4, hr_o_4, hza_o_4, hzc_o_4⟩ := hw_o_4
    refine x_c1V (as := [.int (iI (1)), .int (iI (1))]) (rest := []) S hK hm_o_4 rfl rfl (c_X3_start l G H0 (mc) (th) (ac) (no) (kn) (cc) (h) (True) (1) (by omega) (by first | assumption | omega) (by first | assumption | omega) (by first | assumption | omega) (by assumption) (by omega) hw) q1180 q1182 qs9 q43 q1183 hdX3_start ⟨by decide, by decide⟩ hl.1 rfl rfl (Nat.le_of_ble_eq_true rfl) ⟨Nat.le_of_ble_eq_true rfl, Nat.le_of_ble_eq_true rfl⟩ hS (fun q e => Or.inl (Or.inl e)) (fun q z => Or.inr z) dX3_wholePart_19 (fun rv_c_5 H_c_5 locs hp_c_5 k_c_5 hS => ?_)
    have kw := kw.then k_c_5 (fun q e _ => Or.inl e)
    have hK := hK.keep k_c_5 (fun q e => by have e : q = h := e; omega)
    obtain ⟨th_r_6, hth_r_6, rfl, hw_r_6⟩ := hp_c_5
    have hth_r_6 := hth_r_6.elim (fun z => z.2) (fun z => absurd trivial z.1)
    refine W.eq (g2 := F0 m 22 ls [.int (iI (b2i (0 < (th_r_6))))]) rfl ?_
    refine xi_ifb_eq (tgt := 29) hx hb dX3_wholePart_22 (by decide) (fun c_22 => ?_) (fun c_22 => ?_)
    · skip
      obtain rfl : th_r_6 = 0 := by omega
      refine lv_iload_n hx hb dX3_wholePart_29 rfl (lv_at hl 1 rfl) ?_
      refine x_c0S (as := [.int (iI (n))]) (rest := []) S hK (c_X3_cubes l G H_c_5 (n) (by omega) (by omega) ) q1737 q1738 q43 q1739 hdX3_cubes ⟨by decide, by decide⟩ hl.1 rfl rfl (Nat.le_of_ble_eq_true rfl) ⟨Nat.le_of_ble_eq_true rfl, Nat.le_of_ble_eq_true rfl⟩ dX3_wholePart_30 ?_
      refine x_ret1i hx hb hr hlk hH hS (by omega) (by omega) ?_ dX3_wholePart_33
      first | (exfalso; omega) | exact ⟨(_, _, _, _, _), (by unfold op_wholePart; (repeat (first | with_reducible refine ifp (by omega) ?_ | with_reducible refine ifn (by omega) ?_)); first | rfl | exact comeF_s (by assumption) | exact comeF_n (by assumption) | exact comeF_s (if_pos (by omega)) | exact comeF_n (if_neg (by omega))), rfl, hw_r_6⟩
    · skip
      obtain rfl : th_r_6 = 1 := by omega
      refine xi_iconst hx hb dX3_wholePart_25 ?_
      refine lv_goto (tgt := 33) hx hb dX3_wholePart_26 (by decide) ?_
      refine x_ret1i hx hb hr hlk hH hS (by omega) (by omega) ?_ dX3_wholePart_33
      first | (exfalso; omega) | exact ⟨(_, _, _, _, _), (by unfold op_wholePart; (repeat (first | with_reducible refine ifp (by omega) ?_ | with_reducible refine ifn (by omega) ?_)); first | rfl | exact comeF_s (by assumption) | exact comeF_n (by assumption) | exact comeF_s (if_pos (by omega)) | exact comeF_n (if_neg (by omega))), rfl, hw_r_6⟩

theorem hpX3_isCube : plainFor yX3_isCube = true := by decide +kernel
theorem hdX3_isCube : nMH yX3_isCube 1 := by decide +kernel
set_option maxHeartbeats 4000000 in
theorem c_X3_isCube (l : Launch) (G : GG) (H0 : Heap) (mc : Nat) (th : Int) (ac : Int) (no : Int) (kn : Int) (cc : Nat → Row) (h : Nat) (t : Int) (r_t : -2147483648 ≤ t ∧ t < 2147483648) (hac : 0 ≤ ac ∧ ac ≤ 1000) (hno : 0 ≤ no ∧ no ≤ 1000) (hkn : 0 ≤ kn ∧ kn ≤ 1000) (hok : ∀ k : Nat, k < 8 → okR (cc k)) (hw : MW G (h) (mc) (th) (ac) (no) (kn) (cc) H0) : Ct1 l G yX3_isCube cX3_isCube 2 (Option.some Jvm.ClassFile.FieldType.boolean) 2 0 0 44 [.ref (h), .int (iI (t))] H0 (fun q => q = h ∨ q = mc) (fun (rv : Option Value) (H1 : Heap) => ∃ z : Res, op_isCube ac no cc (t) = z ∧ rv = some (.int (iI z.2.1)) ∧ MW G h mc z.1 z.2.2.1 z.2.2.2.1 kn z.2.2.2.2 H1) := by
  refine Ct1.start hpX3_isCube (Nat.le_of_ble_eq_true rfl) ?_
  intro p e s m below meth c ls hx hb hr S hlk hname hH hK hS hl
  have hl : lv_has ls 2 [(0, .ref (h)), (1, .int (iI (t)))] := hl
  have hbc : ∀ k : Nat, k < 8 → bRow (cc k) := fun k h => okR_b (hok k h)
  have rz_ := rootZ_r t
  have kw : Keep (fun q => q = h ∨ q = mc) H0 H0 := Keep.rf
  have hz0 := hK.2.2.1
  refine lv_aload_n hx hb dX3_isCube_0 rfl (lv_at hl 0 rfl) ?_
  refine lv_iload_n hx hb dX3_isCube_1 rfl (lv_at hl 1 rfl) ?_
  refine xi_i2l hx hb (by omega) dX3_isCube_2 ?_
  refine xi_ldc2 (z := -65535) hx hb S.2.2.2.1 S.2.2.2.2 q1188 (by decide +kernel) dX3_isCube_3 ?_
  refine xi_ldc2 (z := 65535) hx hb S.2.2.2.1 S.2.2.2.2 q1189 (by decide +kernel) dX3_isCube_6 ?_
  refine x_c0S (as := [.long (jI (t)), .long (jI (-65535)), .long (jI (65535))]) (rest := [.ref (h)]) S hK (c_X3_isIn l G H0 (t) (-65535) (65535) (by omega) (by omega) (by omega) ) q1177 q1178 q43 q1179 hdX3_isIn ⟨by decide, by decide⟩ hl.1 rfl rfl (Nat.le_of_ble_eq_true rfl) ⟨Nat.le_of_ble_eq_true rfl, Nat.le_of_ble_eq_true rfl⟩ dX3_isCube_9 ?_
  refine xi_ifb_ne (tgt := 19) hx hb dX3_isCube_12 (by decide) (fun c_12 => ?_) (fun c_12 => ?_)
  · skip
    refine xi_iconst hx hb dX3_isCube_19 ?_
    refine xi_iconst hx hb dX3_isCube_20 ?_
    have hw_o_1 := hw
    obtain ⟨rb_o_1, hm_o_1, hq_o_1, hr_o_1, hza_o_1, hzc_o_1⟩ := hw_o_1
    refine x_c1V (as := [.int (iI (0)), .int (iI (1))]) (rest := []) S hK hm_o_1 rfl rfl (c_X3_start l G H0 (mc) (th) (ac) (no) (kn) (cc) (h) (False) (1) (by omega) (by first | assumption | omega) (by first | assumption | omega) (by first | assumption | omega) (by assumption) (by omega) hw) q1180 q1182 qs9 q43 q1183 hdX3_start ⟨by decide, by decide⟩ hl.1 rfl rfl (Nat.le_of_ble_eq_true rfl) ⟨Nat.le_of_ble_eq_true rfl, Nat.le_of_ble_eq_true rfl⟩ hS (fun q e => Or.inl (Or.inl e)) (fun q z => Or.inr z) dX3_isCube_21 (fun rv_c_2 H_c_2 locs hp_c_2 k_c_2 hS => ?_)
    have kw := kw.then k_c_2 (fun q e _ => Or.inl e)
    have hK := hK.keep k_c_2 (fun q e => by have e : q = h := e; omega)
    obtain ⟨th_r_3, hth_r_3, rfl, hw_r_3⟩ := hp_c_2
    have hth_r_3 := hth_r_3.elim (fun z => z.1.elim) (fun z => z.2)
    refine W.eq (g2 := F0 m 24 ls [.int (iI (b2i (0 < (th_r_3))))]) rfl ?_
    refine xi_ifb_ne (tgt := 40) hx hb dX3_isCube_24 (by decide) (fun c_24 => ?_) (fun c_24 => ?_)
    · skip
      obtain rfl : th_r_3 = 1 := by omega
      refine xi_iconst hx hb dX3_isCube_40 ?_
      refine x_ret1z (E := False) hx hb hr hlk hH hS (by omega) (by omega) rfl ?_ dX3_isCube_41
      first | (exfalso; omega) | exact ⟨(_, _, _, _, _), (by unfold op_isCube; (repeat (first | with_reducible refine ifp (by omega) ?_ | with_reducible refine ifn (by omega) ?_)); first | rfl | exact comeF_s (by assumption) | exact comeF_n (by assumption) | exact comeF_s (if_pos (by omega)) | exact comeF_n (if_neg (by omega))), rfl, hw_r_3⟩
    · skip
      obtain rfl : th_r_3 = 0 := by omega
      refine lv_iload_n hx hb dX3_isCube_27 rfl (lv_at hl 1 rfl) ?_
      refine x_c0S (as := [.int (iI (t))]) (rest := []) S hK (c_X3_rootOf l G H_c_2 (t) (by omega) ) q1254 q1255 q43 q1256 hdX3_rootOf ⟨by decide, by decide⟩ hl.1 rfl rfl (Nat.le_of_ble_eq_true rfl) ⟨Nat.le_of_ble_eq_true rfl, Nat.le_of_ble_eq_true rfl⟩ dX3_isCube_28 ?_
      refine xi_ldc (z := 1000000) hx hb S.2.2.2.1 S.2.2.2.2 q1257 (by decide +kernel) dX3_isCube_31 ?_
      refine xi_icmp_eq (tgt := 40) hx hb dX3_isCube_33 (by decide) (by omega) (by omega) (fun c_33 => ?_) (fun c_33 => ?_)
      · skip
        refine xi_iconst hx hb dX3_isCube_40 ?_
        refine x_ret1z (E := False) hx hb hr hlk hH hS (by omega) (by omega) rfl ?_ dX3_isCube_41
        first | (exfalso; omega) | exact ⟨(_, _, _, _, _), (by unfold op_isCube; (repeat (first | with_reducible refine ifp (by omega) ?_ | with_reducible refine ifn (by omega) ?_)); first | rfl | exact comeF_s (by assumption) | exact comeF_n (by assumption) | exact comeF_s (if_pos (by omega)) | exact comeF_n (if_neg (by omega))), rfl, hw_r_3⟩
      · skip
        refine xi_iconst hx hb dX3_isCube_36 ?_
        refine lv_goto (tgt := 41) hx hb dX3_isCube_37 (by decide) ?_
        refine x_ret1z (E := True) hx hb hr hlk hH hS (by omega) (by omega) rfl ?_ dX3_isCube_41
        first | (exfalso; omega) | exact ⟨(_, _, _, _, _), (by unfold op_isCube; (repeat (first | with_reducible refine ifp (by omega) ?_ | with_reducible refine ifn (by omega) ?_)); first | rfl | exact comeF_s (by assumption) | exact comeF_n (by assumption) | exact comeF_s (if_pos (by omega)) | exact comeF_n (if_neg (by omega))), rfl, hw_r_3⟩
  · skip
    refine xi_iconst hx hb dX3_isCube_15 ?_
    refine lv_goto (tgt := 20) hx hb dX3_isCube_16 (by decide) ?_
    refine xi_iconst hx hb dX3_isCube_20 ?_
    have hw_o_4 := hw
    obtain ⟨rb_o_4, hm_o_4, hq_o_4, hr_o_4, hza_o_4, hzc_o_4⟩ := hw_o_4
    refine x_c1V (as := [.int (iI (1)), .int (iI (1))]) (rest := []) S hK hm_o_4 rfl rfl (c_X3_start l G H0 (mc) (th) (ac) (no) (kn) (cc) (h) (True) (1) (by omega) (by first | assumption | omega) (by first | assumption | omega) (by first | assumption | omega) (by assumption) (by omega) hw) q1180 q1182 qs9 q43 q1183 hdX3_start ⟨by decide, by decide⟩ hl.1 rfl rfl (Nat.le_of_ble_eq_true rfl) ⟨Nat.le_of_ble_eq_true rfl, Nat.le_of_ble_eq_true rfl⟩ hS (fun q e => Or.inl (Or.inl e)) (fun q z => Or.inr z) dX3_isCube_21 (fun rv_c_5 H_c_5 locs hp_c_5 k_c_5 hS => ?_)
    have kw := kw.then k_c_5 (fun q e _ => Or.inl e)
    have hK := hK.keep k_c_5 (fun q e => by have e : q = h := e; omega)
    obtain ⟨th_r_6, hth_r_6, rfl, hw_r_6⟩ := hp_c_5
    have hth_r_6 := hth_r_6.elim (fun z => z.2) (fun z => absurd trivial z.1)
    refine W.eq (g2 := F0 m 24 ls [.int (iI (b2i (0 < (th_r_6))))]) rfl ?_
    refine xi_ifb_ne (tgt := 40) hx hb dX3_isCube_24 (by decide) (fun c_24 => ?_) (fun c_24 => ?_)
    · skip
      obtain rfl : th_r_6 = 1 := by omega
      refine xi_iconst hx hb dX3_isCube_40 ?_
      refine x_ret1z (E := False) hx hb hr hlk hH hS (by omega) (by omega) rfl ?_ dX3_isCube_41
      first | (exfalso; omega) | exact ⟨(_, _, _, _, _), (by unfold op_isCube; (repeat (first | with_reducible refine ifp (by omega) ?_ | with_reducible refine ifn (by omega) ?_)); first | rfl | exact comeF_s (by assumption) | exact comeF_n (by assumption) | exact comeF_s (if_pos (by omega)) | exact comeF_n (if_neg (by omega))), rfl, hw_r_6⟩
    · skip
      obtain rfl : th_r_6 = 0 := by omega
      refine lv_iload_n hx hb dX3_isCube_27 rfl (lv_at hl 1 rfl) ?_
      refine x_c0S (as := [.int (iI (t))]) (rest := []) S hK (c_X3_rootOf l G H_c_5 (t) (by omega) ) q1254 q1255 q43 q1256 hdX3_rootOf ⟨by decide, by decide⟩ hl.1 rfl rfl (Nat.le_of_ble_eq_true rfl) ⟨Nat.le_of_ble_eq_true rfl, Nat.le_of_ble_eq_true rfl⟩ dX3_isCube_28 ?_
      refine xi_ldc (z := 1000000) hx hb S.2.2.2.1 S.2.2.2.2 q1257 (by decide +kernel) dX3_isCube_31 ?_
      refine xi_icmp_eq (tgt := 40) hx hb dX3_isCube_33 (by decide) (by omega) (by omega) (fun c_33 => ?_) (fun c_33 => ?_)
      · skip
        refine xi_iconst hx hb dX3_isCube_40 ?_
        refine x_ret1z (E := False) hx hb hr hlk hH hS (by omega) (by omega) rfl ?_ dX3_isCube_41
        first | (exfalso; omega) | exact ⟨(_, _, _, _, _), (by unfold op_isCube; (repeat (first | with_reducible refine ifp (by omega) ?_ | with_reducible refine ifn (by omega) ?_)); first | rfl | exact comeF_s (by assumption) | exact comeF_n (by assumption) | exact comeF_s (if_pos (by omega)) | exact comeF_n (if_neg (by omega))), rfl, hw_r_6⟩
      · skip
        refine xi_iconst hx hb dX3_isCube_36 ?_
        refine lv_goto (tgt := 41) hx hb dX3_isCube_37 (by decide) ?_
        refine x_ret1z (E := True) hx hb hr hlk hH hS (by omega) (by omega) rfl ?_ dX3_isCube_41
        first | (exfalso; omega) | exact ⟨(_, _, _, _, _), (by unfold op_isCube; (repeat (first | with_reducible refine ifp (by omega) ?_ | with_reducible refine ifn (by omega) ?_)); first | rfl | exact comeF_s (by assumption) | exact comeF_n (by assumption) | exact comeF_s (if_pos (by omega)) | exact comeF_n (if_neg (by omega))), rfl, hw_r_6⟩

theorem hpX3_rootOfCube : plainFor yX3_rootOfCube = true := by decide +kernel
theorem hdX3_rootOfCube : nMH yX3_rootOfCube 1 := by decide +kernel
set_option maxHeartbeats 4000000 in
theorem c_X3_rootOfCube (l : Launch) (G : GG) (H0 : Heap) (mc : Nat) (th : Int) (ac : Int) (no : Int) (kn : Int) (cc : Nat → Row) (h : Nat) (a : Int) (r_a : -2147483648 ≤ a ∧ a < 2147483648) (hac : 0 ≤ ac ∧ ac ≤ 1000) (hno : 0 ≤ no ∧ no ≤ 1000) (hkn : 0 ≤ kn ∧ kn ≤ 1000) (hok : ∀ k : Nat, k < 8 → okR (cc k)) (hw : MW G (h) (mc) (th) (ac) (no) (kn) (cc) H0) : Ct1 l G yX3_rootOfCube cX3_rootOfCube 2 (Option.some Jvm.ClassFile.FieldType.int) 2 0 0 44 [.ref (h), .int (iI (a))] H0 (fun q => q = h ∨ q = mc) (fun (rv : Option Value) (H1 : Heap) => ∃ z : Res, op_rootOfCube ac no cc (a) = z ∧ rv = some (.int (iI z.2.1)) ∧ MW G h mc z.1 z.2.2.1 z.2.2.2.1 kn z.2.2.2.2 H1) := by
  refine Ct1.start hpX3_rootOfCube (Nat.le_of_ble_eq_true rfl) ?_
  intro p e s m below meth c ls hx hb hr S hlk hname hH hK hS hl
  have hl : lv_has ls 2 [(0, .ref (h)), (1, .int (iI (a)))] := hl
  have hbc : ∀ k : Nat, k < 8 → bRow (cc k) := fun k h => okR_b (hok k h)
  have kw : Keep (fun q => q = h ∨ q = mc) H0 H0 := Keep.rf
  have hz0 := hK.2.2.1
  refine lv_aload_n hx hb dX3_rootOfCube_0 rfl (lv_at hl 0 rfl) ?_
  refine lv_iload_n hx hb dX3_rootOfCube_1 rfl (lv_at hl 1 rfl) ?_
  refine xi_i2l hx hb (by omega) dX3_rootOfCube_2 ?_
  refine xi_lconst (z := 0) hx hb (by decide +kernel) dX3_rootOfCube_3 ?_
  refine xi_ldc2 (z := 208000) hx hb S.2.2.2.1 S.2.2.2.2 q1748 (by decide +kernel) dX3_rootOfCube_4 ?_
  refine x_c0S (as := [.long (jI (a)), .long (jI (0)), .long (jI (208000))]) (rest := [.ref (h)]) S hK (c_X3_isIn l G H0 (a) (0) (208000) (by omega) (by omega) (by omega) ) q1177 q1178 q43 q1179 hdX3_isIn ⟨by decide, by decide⟩ hl.1 rfl rfl (Nat.le_of_ble_eq_true rfl) ⟨Nat.le_of_ble_eq_true rfl, Nat.le_of_ble_eq_true rfl⟩ dX3_rootOfCube_7 ?_
  refine xi_ifb_ne (tgt := 17) hx hb dX3_rootOfCube_10 (by decide) (fun c_10 => ?_) (fun c_10 => ?_)
  · skip
    refine xi_iconst hx hb dX3_rootOfCube_17 ?_
    refine xi_iconst hx hb dX3_rootOfCube_18 ?_
    have hw_o_1 := hw
    obtain ⟨rb_o_1, hm_o_1, hq_o_1, hr_o_1, hza_o_1, hzc_o_1⟩ := hw_o_1
    refine x_c1V (as := [.int (iI (0)), .int (iI (1))]) (rest := []) S hK hm_o_1 rfl rfl (c_X3_start l G H0 (mc) (th) (ac) (no) (kn) (cc) (h) (False) (1) (by omega) (by first | assumption | omega) (by first | assumption | omega) (by first | assumption | omega) (by assumption) (by omega) hw) q1180 q1182 qs9 q43 q1183 hdX3_start ⟨by decide, by decide⟩ hl.1 rfl rfl (Nat.le_of_ble_eq_true rfl) ⟨Nat.le_of_ble_eq_true rfl, Nat.le_of_ble_eq_true rfl⟩ hS (fun q e => Or.inl (Or.inl e)) (fun q z => Or.inr z) dX3_rootOfCube_19 (fun rv_c_2 H_c_2 locs hp_c_2 k_c_2 hS => ?_)
    have kw := kw.then k_c_2 (fun q e _ => Or.inl e)
    have hK := hK.keep k_c_2 (fun q e => by have e : q = h := e; omega)
    obtain ⟨th_r_3, hth_r_3, rfl, hw_r_3⟩ := hp_c_2
    have hth_r_3 := hth_r_3.elim (fun z => z.1.elim) (fun z => z.2)
    refine W.eq (g2 := F0 m 22 ls [.int (iI (b2i (0 < (th_r_3))))]) rfl ?_
    refine xi_ifb_eq (tgt := 29) hx hb dX3_rootOfCube_22 (by decide) (fun c_22 => ?_) (fun c_22 => ?_)
    · skip
      obtain rfl : th_r_3 = 0 := by omega
      refine lv_iload_n hx hb dX3_rootOfCube_29 rfl (lv_at hl 1 rfl) ?_
      refine x_ret1i hx hb hr hlk hH hS (by omega) (by omega) ?_ dX3_rootOfCube_30
      first | (exfalso; omega) | exact ⟨(_, _, _, _, _), (by unfold op_rootOfCube; (repeat (first | with_reducible refine ifp (by omega) ?_ | with_reducible refine ifn (by omega) ?_)); first | rfl | exact comeF_s (by assumption) | exact comeF_n (by assumption) | exact comeF_s (if_pos (by omega)) | exact comeF_n (if_neg (by omega))), rfl, hw_r_3⟩
    · skip
      obtain rfl : th_r_3 = 1 := by omega
      refine xi_iconst hx hb dX3_rootOfCube_25 ?_
      refine lv_goto (tgt := 30) hx hb dX3_rootOfCube_26 (by decide) ?_
      refine x_ret1i hx hb hr hlk hH hS (by omega) (by omega) ?_ dX3_rootOfCube_30
      first | (exfalso; omega) | exact ⟨(_, _, _, _, _), (by unfold op_rootOfCube; (repeat (first | with_reducible refine ifp (by omega) ?_ | with_reducible refine ifn (by omega) ?_)); first | rfl | exact comeF_s (by assumption) | exact comeF_n (by assumption) | exact comeF_s (if_pos (by omega)) | exact comeF_n (if_neg (by omega))), rfl, hw_r_3⟩
  · skip
    refine xi_iconst hx hb dX3_rootOfCube_13 ?_
    refine lv_goto (tgt := 18) hx hb dX3_rootOfCube_14 (by decide) ?_
    refine xi_iconst hx hb dX3_rootOfCube_18 ?_
    have hw_o_4 := hw
    obtain ⟨rb_o_4, hm_o_4, hq_o_4, hr_o_4, hza_o_4, hzc_o_4⟩ := hw_o_4
    refine x_c1V (as := [.int (iI (1)), .int (iI (1))]) (rest := []) S hK hm_o_4 rfl rfl (c_X3_start l G H0 (mc) (th) (ac) (no) (kn) (cc) (h) (True) (1) (by omega) (by first | assumption | omega) (by first | assumption | omega) (by first | assumption | omega) (by assumption) (by omega) hw) q1180 q1182 qs9 q43 q1183 hdX3_start ⟨by decide, by decide⟩ hl.1 rfl rfl (Nat.le_of_ble_eq_true rfl) ⟨Nat.le_of_ble_eq_true rfl, Nat.le_of_ble_eq_true rfl⟩ hS (fun q e => Or.inl (Or.inl e)) (fun q z => Or.inr z) dX3_rootOfCube_19 (fun rv_c_5 H_c_5 locs hp_c_5 k_c_5 hS => ?_)
    have kw := kw.then k_c_5 (fun q e _ => Or.inl e)
    have hK := hK.keep k_c_5 (fun q e => by have e : q = h := e; omega)
    obtain ⟨th_r_6, hth_r_6, rfl, hw_r_6⟩ := hp_c_5
    have hth_r_6 := hth_r_6.elim (fun z => z.2) (fun z => absurd trivial z.1)
    refine W.eq (g2 := F0 m 22 ls [.int (iI (b2i (0 < (th_r_6))))]) rfl ?_
    refine xi_ifb_eq (tgt := 29) hx hb dX3_rootOfCube_22 (by decide) (fun c_22 => ?_) (fun c_22 => ?_)
    · skip
      obtain rfl : th_r_6 = 0 := by omega
      refine lv_iload_n hx hb dX3_rootOfCube_29 rfl (lv_at hl 1 rfl) ?_
      refine x_ret1i hx hb hr hlk hH hS (by omega) (by omega) ?_ dX3_rootOfCube_30
      first | (exfalso; omega) | exact ⟨(_, _, _, _, _), (by unfold op_rootOfCube; (repeat (first | with_reducible refine ifp (by omega) ?_ | with_reducible refine ifn (by omega) ?_)); first | rfl | exact comeF_s (by assumption) | exact comeF_n (by assumption) | exact comeF_s (if_pos (by omega)) | exact comeF_n (if_neg (by omega))), rfl, hw_r_6⟩
    · skip
      obtain rfl : th_r_6 = 1 := by omega
      refine xi_iconst hx hb dX3_rootOfCube_25 ?_
      refine lv_goto (tgt := 30) hx hb dX3_rootOfCube_26 (by decide) ?_
      refine x_ret1i hx hb hr hlk hH hS (by omega) (by omega) ?_ dX3_rootOfCube_30
      first | (exfalso; omega) | exact ⟨(_, _, _, _, _), (by unfold op_rootOfCube; (repeat (first | with_reducible refine ifp (by omega) ?_ | with_reducible refine ifn (by omega) ?_)); first | rfl | exact comeF_s (by assumption) | exact comeF_n (by assumption) | exact comeF_s (if_pos (by omega)) | exact comeF_n (if_neg (by omega))), rfl, hw_r_6⟩

theorem hpX3_product : plainFor yX3_product = true := by decide +kernel
theorem hdX3_product : nMH yX3_product 2 := by decide +kernel
set_option maxHeartbeats 4000000 in
theorem c_X3_product (l : Launch) (G : GG) (H0 : Heap) (mc : Nat) (th : Int) (ac : Int) (no : Int) (kn : Int) (cc : Nat → Row) (h : Nat) (a : Int) (b : Int) (r_a : -2147483648 ≤ a ∧ a < 2147483648) (r_b : -2147483648 ≤ b ∧ b < 2147483648) (hac : 0 ≤ ac ∧ ac ≤ 1000) (hno : 0 ≤ no ∧ no ≤ 1000) (hkn : 0 ≤ kn ∧ kn ≤ 1000) (hok : ∀ k : Nat, k < 8 → okR (cc k)) (hw : MW G (h) (mc) (th) (ac) (no) (kn) (cc) H0) : Ct1 l G yX3_product cX3_product 3 (Option.some Jvm.ClassFile.FieldType.int) 2 0 0 44 [.ref (h), .int (iI (a)), .int (iI (b))] H0 (fun q => q = h ∨ q = mc) (fun (rv : Option Value) (H1 : Heap) => ∃ z : Res, op_product ac no cc (a) (b) = z ∧ rv = some (.int (iI z.2.1)) ∧ MW G h mc z.1 z.2.2.1 z.2.2.2.1 kn z.2.2.2.2 H1) := by
  refine Ct1.start hpX3_product (Nat.le_of_ble_eq_true rfl) ?_
  intro p e s m below meth c ls hx hb hr S hlk hname hH hK hS hl
  have hl : lv_has ls 3 [(0, .ref (h)), (1, .int (iI (a))), (2, .int (iI (b)))] := hl
  have hbc : ∀ k : Nat, k < 8 → bRow (cc k) := fun k h => okR_b (hok k h)
  have kw : Keep (fun q => q = h ∨ q = mc) H0 H0 := Keep.rf
  have hz0 := hK.2.2.1
  refine lv_aload_n hx hb dX3_product_0 rfl (lv_at hl 0 rfl) ?_
  refine lv_iload_n hx hb dX3_product_1 rfl (lv_at hl 1 rfl) ?_
  refine xi_i2l hx hb (by omega) dX3_product_2 ?_
  refine xi_ldc2 (z := -128) hx hb S.2.2.2.1 S.2.2.2.2 q1753 (by decide +kernel) dX3_product_3 ?_
  refine xi_ldc2 (z := 128) hx hb S.2.2.2.1 S.2.2.2.2 q1754 (by decide +kernel) dX3_product_6 ?_
  refine x_c0S (as := [.long (jI (a)), .long (jI (-128)), .long (jI (128))]) (rest := [.ref (h)]) S hK (c_X3_isIn l G H0 (a) (-128) (128) (by omega) (by omega) (by omega) ) q1177 q1178 q43 q1179 hdX3_isIn ⟨by decide, by decide⟩ hl.1 rfl rfl (Nat.le_of_ble_eq_true rfl) ⟨Nat.le_of_ble_eq_true rfl, Nat.le_of_ble_eq_true rfl⟩ dX3_product_9 ?_
  refine xi_ifb_eq (tgt := 29) hx hb dX3_product_12 (by decide) (fun c_12 => ?_) (fun c_12 => ?_)
  · skip
    refine xi_iconst hx hb dX3_product_29 ?_
    refine lv_goto (tgt := 34) hx hb dX3_product_30 (by decide) ?_
    refine xi_iconst hx hb dX3_product_34 ?_
    have hw_o_1 := hw
    obtain ⟨rb_o_1, hm_o_1, hq_o_1, hr_o_1, hza_o_1, hzc_o_1⟩ := hw_o_1
    refine x_c1V (as := [.int (iI (1)), .int (iI (1))]) (rest := []) S hK hm_o_1 rfl rfl (c_X3_start l G H0 (mc) (th) (ac) (no) (kn) (cc) (h) (True) (1) (by omega) (by first | assumption | omega) (by first | assumption | omega) (by first | assumption | omega) (by assumption) (by omega) hw) q1180 q1182 qs9 q43 q1183 hdX3_start ⟨by decide, by decide⟩ hl.1 rfl rfl (Nat.le_of_ble_eq_true rfl) ⟨Nat.le_of_ble_eq_true rfl, Nat.le_of_ble_eq_true rfl⟩ hS (fun q e => Or.inl (Or.inl e)) (fun q z => Or.inr z) dX3_product_35 (fun rv_c_2 H_c_2 locs hp_c_2 k_c_2 hS => ?_)
    have kw := kw.then k_c_2 (fun q e _ => Or.inl e)
    have hK := hK.keep k_c_2 (fun q e => by have e : q = h := e; omega)
    obtain ⟨th_r_3, hth_r_3, rfl, hw_r_3⟩ := hp_c_2
    have hth_r_3 := hth_r_3.elim (fun z => z.2) (fun z => absurd trivial z.1)
    refine W.eq (g2 := F0 m 38 ls [.int (iI (b2i (0 < (th_r_3))))]) rfl ?_
    refine xi_ifb_eq (tgt := 45) hx hb dX3_product_38 (by decide) (fun c_38 => ?_) (fun c_38 => ?_)
    · skip
      obtain rfl : th_r_3 = 0 := by omega
      refine lv_iload_n hx hb dX3_product_45 rfl (lv_at hl 1 rfl) ?_
      refine lv_iload_n hx hb dX3_product_46 rfl (lv_at hl 2 rfl) ?_
      refine xi_imul hx hb dX3_product_47 ?_
      refine x_ret1i hx hb hr hlk hH hS (by omega) (by omega) ?_ dX3_product_48
      first | (exfalso; omega) | exact ⟨(_, _, _, _, _), (by unfold op_product; (repeat (first | with_reducible refine ifp (by omega) ?_ | with_reducible refine ifn (by omega) ?_)); first | rfl | exact comeF_s (by assumption) | exact comeF_n (by assumption) | exact comeF_s (if_pos (by omega)) | exact comeF_n (if_neg (by omega))), rfl, hw_r_3⟩
    · skip
      obtain rfl : th_r_3 = 1 := by omega
      refine xi_iconst hx hb dX3_product_41 ?_
      refine lv_goto (tgt := 48) hx hb dX3_product_42 (by decide) ?_
      refine x_ret1i hx hb hr hlk hH hS (by omega) (by omega) ?_ dX3_product_48
      first | (exfalso; omega) | exact ⟨(_, _, _, _, _), (by unfold op_product; (repeat (first | with_reducible refine ifp (by omega) ?_ | with_reducible refine ifn (by omega) ?_)); first | rfl | exact comeF_s (by assumption) | exact comeF_n (by assumption) | exact comeF_s (if_pos (by omega)) | exact comeF_n (if_neg (by omega))), rfl, hw_r_3⟩
  · skip
    refine lv_iload_n hx hb dX3_product_15 rfl (lv_at hl 2 rfl) ?_
    refine xi_i2l hx hb (by omega) dX3_product_16 ?_
    refine xi_ldc2 (z := -128) hx hb S.2.2.2.1 S.2.2.2.2 q1753 (by decide +kernel) dX3_product_17 ?_
    refine xi_ldc2 (z := 128) hx hb S.2.2.2.1 S.2.2.2.2 q1754 (by decide +kernel) dX3_product_20 ?_
    refine x_c0S (as := [.long (jI (b)), .long (jI (-128)), .long (jI (128))]) (rest := [.ref (h)]) S hK (c_X3_isIn l G H0 (b) (-128) (128) (by omega) (by omega) (by omega) ) q1177 q1178 q43 q1179 hdX3_isIn ⟨by decide, by decide⟩ hl.1 rfl rfl (Nat.le_of_ble_eq_true rfl) ⟨Nat.le_of_ble_eq_true rfl, Nat.le_of_ble_eq_true rfl⟩ dX3_product_23 ?_
    refine xi_ifb_ne (tgt := 33) hx hb dX3_product_26 (by decide) (fun c_26 => ?_) (fun c_26 => ?_)
    · skip
      refine xi_iconst hx hb dX3_product_33 ?_
      refine xi_iconst hx hb dX3_product_34 ?_
      have hw_o_4 := hw
      obtain ⟨rb_o_4, hm_o_4, hq_o_4, hr_o_4, hza_o_4, hzc_o_4⟩ := hw_o_4
      refine x_c1V (as := [.int (iI (0)), .int (iI (1))]) (rest := []) S hK hm_o_4 rfl rfl (c_X3_start l G H0 (mc) (th) (ac) (no) (kn) (cc) (h) (False) (1) (by omega) (by first | assumption | omega) (by first | assumption | omega) (by first | assumption | omega) (by assumption) (by omega) hw) q1180 q1182 qs9 q43 q1183 hdX3_start ⟨by decide, by decide⟩ hl.1 rfl rfl (Nat.le_of_ble_eq_true rfl) ⟨Nat.le_of_ble_eq_true rfl, Nat.le_of_ble_eq_true rfl⟩ hS (fun q e => Or.inl (Or.inl e)) (fun q z => Or.inr z) dX3_product_35 (fun rv_c_5 H_c_5 locs hp_c_5 k_c_5 hS => ?_)
      have kw := kw.then k_c_5 (fun q e _ => Or.inl e)
      have hK := hK.keep k_c_5 (fun q e => by have e : q = h := e; omega)
      obtain ⟨th_r_6, hth_r_6, rfl, hw_r_6⟩ := hp_c_5
      have hth_r_6 := hth_r_6.elim (fun z => z.1.elim) (fun z => z.2)
      refine W.eq (g2 := F0 m 38 ls [.int (iI (b2i (0 < (th_r_6))))]) rfl ?_
      refine xi_ifb_eq (tgt := 45) hx hb dX3_product_38 (by decide) (fun c_38 => ?_) (fun c_38 => ?_)
      · skip
        obtain rfl : th_r_6 = 0 := by omega
        refine lv_iload_n hx hb dX3_product_45 rfl (lv_at hl 1 rfl) ?_
        refine lv_iload_n hx hb dX3_product_46 rfl (lv_at hl 2 rfl) ?_
        refine xi_imul hx hb dX3_product_47 ?_
        refine x_ret1i hx hb hr hlk hH hS (by omega) (by omega) ?_ dX3_product_48
        first | (exfalso; omega) | exact ⟨(_, _, _, _, _), (by unfold op_product; (repeat (first | with_reducible refine ifp (by omega) ?_ | with_reducible refine ifn (by omega) ?_)); first | rfl | exact comeF_s (by assumption) | exact comeF_n (by assumption) | exact comeF_s (if_pos (by omega)) | exact comeF_n (if_neg (by omega))), rfl, hw_r_6⟩
      · skip
        obtain rfl : th_r_6 = 1 := by omega
        refine xi_iconst hx hb dX3_product_41 ?_
        refine lv_goto (tgt := 48) hx hb dX3_product_42 (by decide) ?_
        refine x_ret1i hx hb hr hlk hH hS (by omega) (by omega) ?_ dX3_product_48
        first | (exfalso; omega) | exact ⟨(_, _, _, _, _), (by unfold op_product; (repeat (first | with_reducible refine ifp (by omega) ?_ | with_reducible refine ifn (by omega) ?_)); first | rfl | exact comeF_s (by assumption) | exact comeF_n (by assumption) | exact comeF_s (if_pos (by omega)) | exact comeF_n (if_neg (by omega))), rfl, hw_r_6⟩
    · skip
      refine xi_iconst hx hb dX3_product_29 ?_
      refine lv_goto (tgt := 34) hx hb dX3_product_30 (by decide) ?_
      refine xi_iconst hx hb dX3_product_34 ?_
      have hw_o_7 := hw
      obtain ⟨rb_o_7, hm_o_7, hq_o_7, hr_o_7, hza_o_7, hzc_o_7⟩ := hw_o_7
      refine x_c1V (as := [.int (iI (1)), .int (iI (1))]) (rest := []) S hK hm_o_7 rfl rfl (c_X3_start l G H0 (mc) (th) (ac) (no) (kn) (cc) (h) (True) (1) (by omega) (by first | assumption | omega) (by first | assumption | omega) (by first | assumption | omega) (by assumption) (by omega) hw) q1180 q1182 qs9 q43 q1183 hdX3_start ⟨by decide, by decide⟩ hl.1 rfl rfl (Nat.le_of_ble_eq_true rfl) ⟨Nat.le_of_ble_eq_true rfl, Nat.le_of_ble_eq_true rfl⟩ hS (fun q e => Or.inl (Or.inl e)) (fun q z => Or.inr z) dX3_product_35 (fun rv_c_8 H_c_8 locs hp_c_8 k_c_8 hS => ?_)
      have kw := kw.then k_c_8 (fun q e _ => Or.inl e)
      have hK := hK.keep k_c_8 (fun q e => by have e : q = h := e; omega)
      obtain ⟨th_r_9, hth_r_9, rfl, hw_r_9⟩ := hp_c_8
      have hth_r_9 := hth_r_9.elim (fun z => z.2) (fun z => absurd trivial z.1)
      refine W.eq (g2 := F0 m 38 ls [.int (iI (b2i (0 < (th_r_9))))]) rfl ?_
      refine xi_ifb_eq (tgt := 45) hx hb dX3_product_38 (by decide) (fun c_38 => ?_) (fun c_38 => ?_)
      · skip
        obtain rfl : th_r_9 = 0 := by omega
        refine lv_iload_n hx hb dX3_product_45 rfl (lv_at hl 1 rfl) ?_
        refine lv_iload_n hx hb dX3_product_46 rfl (lv_at hl 2 rfl) ?_
        refine xi_imul hx hb dX3_product_47 ?_
        refine x_ret1i hx hb hr hlk hH hS (by omega) (by omega) ?_ dX3_product_48
        first | (exfalso; omega) | exact ⟨(_, _, _, _, _), (by unfold op_product; (repeat (first | with_reducible refine ifp (by omega) ?_ | with_reducible refine ifn (by omega) ?_)); first | rfl | exact comeF_s (by assumption) | exact comeF_n (by assumption) | exact comeF_s (if_pos (by omega)) | exact comeF_n (if_neg (by omega))), rfl, hw_r_9⟩
      · skip
        obtain rfl : th_r_9 = 1 := by omega
        refine xi_iconst hx hb dX3_product_41 ?_
        refine lv_goto (tgt := 48) hx hb dX3_product_42 (by decide) ?_
        refine x_ret1i hx hb hr hlk hH hS (by omega) (by omega) ?_ dX3_product_48
        first | (exfalso; omega) | exact ⟨(_, _, _, _, _), (by unfold op_product; (repeat (first | with_reducible refine ifp (by omega) ?_ | with_reducible refine ifn (by omega) ?_)); first | rfl | exact comeF_s (by assumption) | exact comeF_n (by assumption) | exact comeF_s (if_pos (by omega)) | exact comeF_n (if_neg (by omega))), rfl, hw_r_9⟩

theorem hpX3_stepsUp : plainFor yX3_stepsUp = true := by decide +kernel
theorem hdX3_stepsUp : nMH yX3_stepsUp 2 := by decide +kernel
set_option maxHeartbeats 4000000 in
theorem c_X3_stepsUp (l : Launch) (G : GG) (H0 : Heap) (mc : Nat) (th : Int) (ac : Int) (no : Int) (kn : Int) (cc : Nat → Row) (h : Nat) (n : Int) (t : Int) (r_n : -2147483648 ≤ n ∧ n < 2147483648) (r_t : -2147483648 ≤ t ∧ t < 2147483648) (hac : 0 ≤ ac ∧ ac ≤ 1000) (hno : 0 ≤ no ∧ no ≤ 1000) (hkn : 0 ≤ kn ∧ kn ≤ 1000) (hok : ∀ k : Nat, k < 8 → okR (cc k)) (hw : MW G (h) (mc) (th) (ac) (no) (kn) (cc) H0) : Ct1 l G yX3_stepsUp cX3_stepsUp 3 (Option.some Jvm.ClassFile.FieldType.int) 2 0 0 49 [.ref (h), .int (iI (n)), .int (iI (t))] H0 (fun q => q = h ∨ q = mc) (fun (rv : Option Value) (H1 : Heap) => ∃ z : Res, op_stepsUp ac no cc (n) (t) = z ∧ rv = some (.int (iI z.2.1)) ∧ MW G h mc z.1 z.2.2.1 z.2.2.2.1 kn z.2.2.2.2 H1) := by
  refine Ct1.start hpX3_stepsUp (Nat.le_of_ble_eq_true rfl) ?_
  intro p e s m below meth c ls hx hb hr S hlk hname hH hK hS hl
  have hl : lv_has ls 3 [(0, .ref (h)), (1, .int (iI (n))), (2, .int (iI (t)))] := hl
  have hbc : ∀ k : Nat, k < 8 → bRow (cc k) := fun k h => okR_b (hok k h)
  have kw : Keep (fun q => q = h ∨ q = mc) H0 H0 := Keep.rf
  have hz0 := hK.2.2.1
  refine lv_aload_n hx hb dX3_stepsUp_0 rfl (lv_at hl 0 rfl) ?_
  refine lv_iload_n hx hb dX3_stepsUp_1 rfl (lv_at hl 1 rfl) ?_
  refine xi_iconst hx hb dX3_stepsUp_2 ?_
  refine lv_iload_n hx hb dX3_stepsUp_3 rfl (lv_at hl 2 rfl) ?_
  refine xi_sipush hx hb (by decide) dX3_stepsUp_4 ?_
  refine lv_iload_n hx hb dX3_stepsUp_7 rfl (lv_at hl 1 rfl) ?_
  refine lv_iload_n hx hb dX3_stepsUp_8 rfl (lv_at hl 2 rfl) ?_
  refine xi_iadd hx hb dX3_stepsUp_9 ?_
  refine xi_wrap (fun la r_la e_la => ?_)
  refine x_c0S (as := [.int (iI (n)), .int (iI (0)), .int (iI (t)), .int (iI (200)), .int (iI (la))]) (rest := [.ref (h)]) S hK (c_X3_isNoStretch l G H0 (n) (0) (t) (200) (la) (by omega) (by omega) (by omega) (by omega) (by omega) ) q1775 q1776 q43 q1777 hdX3_isNoStretch ⟨by decide, by decide⟩ hl.1 rfl rfl (Nat.le_of_ble_eq_true rfl) ⟨Nat.le_of_ble_eq_true rfl, Nat.le_of_ble_eq_true rfl⟩ dX3_stepsUp_10 ?_
  refine xi_iconst hx hb dX3_stepsUp_13 ?_
  have hw_o_1 := hw
  obtain ⟨rb_o_1, hm_o_1, hq_o_1, hr_o_1, hza_o_1, hzc_o_1⟩ := hw_o_1
  refine x_c1V (as := [.int (iI (b2i (¬ ((0) ≤ (n) ∧ (n) ≤ 65535) ∨ ¬ (0 ≤ (t) ∧ (t) ≤ (200)) ∨ 65535 < (la)))), .int (iI (1))]) (rest := []) S hK hm_o_1 rfl rfl (c_X3_start l G H0 (mc) (th) (ac) (no) (kn) (cc) (h) (¬ ((0) ≤ (n) ∧ (n) ≤ 65535) ∨ ¬ (0 ≤ (t) ∧ (t) ≤ (200)) ∨ 65535 < (la)) (1) (by omega) (by first | assumption | omega) (by first | assumption | omega) (by first | assumption | omega) (by assumption) (by omega) hw) q1180 q1182 qs9 q43 q1183 hdX3_start ⟨by decide, by decide⟩ hl.1 rfl rfl (Nat.le_of_ble_eq_true rfl) ⟨Nat.le_of_ble_eq_true rfl, Nat.le_of_ble_eq_true rfl⟩ hS (fun q e => Or.inl (Or.inl e)) (fun q z => Or.inr z) dX3_stepsUp_14 (fun rv_c_2 H_c_2 locs hp_c_2 k_c_2 hS => ?_)
  have kw := kw.then k_c_2 (fun q e _ => Or.inl e)
  have hK := hK.keep k_c_2 (fun q e => by have e : q = h := e; omega)
  obtain ⟨th_r_3, hth_r_3, rfl, hw_r_3⟩ := hp_c_2
  refine W.eq (g2 := F0 m 17 ls [.int (iI (b2i (0 < (th_r_3))))]) rfl ?_
  refine xi_ifb_eq (tgt := 22) hx hb dX3_stepsUp_17 (by decide) (fun c_17 => ?_) (fun c_17 => ?_)
  · skip
    obtain rfl : th_r_3 = 0 := by omega
    refine lv_iload_n hx hb dX3_stepsUp_22 rfl (lv_at hl 1 rfl) ?_
    refine lv_iload_n hx hb dX3_stepsUp_23 rfl (lv_at hl 2 rfl) ?_
    refine xi_iadd hx hb dX3_stepsUp_24 ?_
    refine x_c0S (as := [.int (iI ((n) + (t)))]) (rest := []) S hK (c_X3_cubes l G H_c_2 ((n) + (t)) (by omega) (by omega) ) q1737 q1738 q43 q1739 hdX3_cubes ⟨by decide, by decide⟩ hl.1 rfl rfl (Nat.le_of_ble_eq_true rfl) ⟨Nat.le_of_ble_eq_true rfl, Nat.le_of_ble_eq_true rfl⟩ dX3_stepsUp_25 ?_
    refine lv_iload_n hx hb dX3_stepsUp_28 rfl (lv_at hl 1 rfl) ?_
    refine x_c0S (as := [.int (iI (n))]) (rest := [.int (iI (cubesZ ((n) + (t))))]) S hK (c_X3_cubes l G H_c_2 (n) (by omega) (by omega) ) q1737 q1738 q43 q1739 hdX3_cubes ⟨by decide, by decide⟩ hl.1 rfl rfl (Nat.le_of_ble_eq_true rfl) ⟨Nat.le_of_ble_eq_true rfl, Nat.le_of_ble_eq_true rfl⟩ dX3_stepsUp_29 ?_
    refine xi_isub hx hb dX3_stepsUp_32 ?_
    refine x_ret1i hx hb hr hlk hH hS (by omega) (by omega) ?_ dX3_stepsUp_33
    first | (exfalso; omega) | exact ⟨(_, _, _, _, _), (by unfold op_stepsUp; (repeat (first | with_reducible refine ifp (by omega) ?_ | with_reducible refine ifn (by omega) ?_)); first | rfl | exact comeF_s (by assumption) | exact comeF_n (by assumption) | exact comeF_s (if_pos (by omega)) | exact comeF_n (if_neg (by omega))), rfl, hw_r_3⟩
  · skip
    obtain rfl : th_r_3 = 1 := by omega
    refine xi_iconst hx hb dX3_stepsUp_20 ?_
    refine x_ret1i hx hb hr hlk hH hS (by omega) (by omega) ?_ dX3_stepsUp_21
    first | (exfalso; omega) | exact ⟨(_, _, _, _, _), (by unfold op_stepsUp; (repeat (first | with_reducible refine ifp (by omega) ?_ | with_reducible refine ifn (by omega) ?_)); first | rfl | exact comeF_s (by assumption) | exact comeF_n (by assumption) | exact comeF_s (if_pos (by omega)) | exact comeF_n (if_neg (by omega))), rfl, hw_r_3⟩

theorem hpX3_rises : plainFor yX3_rises = true := by decide +kernel
theorem hdX3_rises : nMH yX3_rises 3 := by decide +kernel
set_option maxHeartbeats 4000000 in
theorem c_X3_rises (l : Launch) (G : GG) (H0 : Heap) (mc : Nat) (th : Int) (ac : Int) (no : Int) (kn : Int) (cc : Nat → Row) (h : Nat) (P : Prop) [Decidable P] (n : Int) (t : Int) (r_n : -2147483648 ≤ n ∧ n < 2147483648) (r_t : -2147483648 ≤ t ∧ t < 2147483648) (hac : 0 ≤ ac ∧ ac ≤ 1000) (hno : 0 ≤ no ∧ no ≤ 1000) (hkn : 0 ≤ kn ∧ kn ≤ 1000) (hok : ∀ k : Nat, k < 8 → okR (cc k)) (hw : MW G (h) (mc) (th) (ac) (no) (kn) (cc) H0) : Ct1 l G yX3_rises cX3_rises 4 (Option.some Jvm.ClassFile.FieldType.boolean) 2 0 0 49 [.ref (h), .int (iI (b2i (P))), .int (iI (n)), .int (iI (t))] H0 (fun q => q = h ∨ q = mc) (fun (rv : Option Value) (H1 : Heap) => ∃ z : Res, op_rises ac no cc (P) (n) (t) = z ∧ rv = some (.int (iI z.2.1)) ∧ MW G h mc z.1 z.2.2.1 z.2.2.2.1 kn z.2.2.2.2 H1) := by
  refine Ct1.start hpX3_rises (Nat.le_of_ble_eq_true rfl) ?_
  intro p e s m below meth c ls hx hb hr S hlk hname hH hK hS hl
  have hl : lv_has ls 4 [(0, .ref (h)), (1, .int (iI (b2i (P)))), (2, .int (iI (n))), (3, .int (iI (t)))] := hl
  have hbc : ∀ k : Nat, k < 8 → bRow (cc k) := fun k h => okR_b (hok k h)
  have kw : Keep (fun q => q = h ∨ q = mc) H0 H0 := Keep.rf
  have hz0 := hK.2.2.1
  refine lv_aload_n hx hb dX3_rises_0 rfl (lv_at hl 0 rfl) ?_
  refine lv_iload_n hx hb dX3_rises_1 rfl (lv_at hl 2 rfl) ?_
  refine xi_ldc_w (z := -65535) hx hb S.2.2.2.1 S.2.2.2.2 q1792 (by decide +kernel) dX3_rises_2 ?_
  refine lv_iload_n hx hb dX3_rises_5 rfl (lv_at hl 3 rfl) ?_
  refine xi_sipush hx hb (by decide) dX3_rises_6 ?_
  refine lv_iload_n hx hb dX3_rises_9 rfl (lv_at hl 2 rfl) ?_
  refine lv_iload_n hx hb dX3_rises_10 rfl (lv_at hl 3 rfl) ?_
  refine xi_iadd hx hb dX3_rises_11 ?_
  refine xi_wrap (fun la r_la e_la => ?_)
  refine x_c0S (as := [.int (iI (n)), .int (iI (-65535)), .int (iI (t)), .int (iI (200)), .int (iI (la))]) (rest := [.ref (h)]) S hK (c_X3_isNoStretch l G H0 (n) (-65535) (t) (200) (la) (by omega) (by omega) (by omega) (by omega) (by omega) ) q1775 q1776 q43 q1777 hdX3_isNoStretch ⟨by decide, by decide⟩ hl.1 rfl rfl (Nat.le_of_ble_eq_true rfl) ⟨Nat.le_of_ble_eq_true rfl, Nat.le_of_ble_eq_true rfl⟩ dX3_rises_12 ?_
  refine xi_iconst hx hb dX3_rises_15 ?_
  have hw_o_1 := hw
  obtain ⟨rb_o_1, hm_o_1, hq_o_1, hr_o_1, hza_o_1, hzc_o_1⟩ := hw_o_1
  refine x_c1V (as := [.int (iI (b2i (¬ ((-65535) ≤ (n) ∧ (n) ≤ 65535) ∨ ¬ (0 ≤ (t) ∧ (t) ≤ (200)) ∨ 65535 < (la)))), .int (iI (1))]) (rest := []) S hK hm_o_1 rfl rfl (c_X3_start l G H0 (mc) (th) (ac) (no) (kn) (cc) (h) (¬ ((-65535) ≤ (n) ∧ (n) ≤ 65535) ∨ ¬ (0 ≤ (t) ∧ (t) ≤ (200)) ∨ 65535 < (la)) (1) (by omega) (by first | assumption | omega) (by first | assumption | omega) (by first | assumption | omega) (by assumption) (by omega) hw) q1180 q1182 qs9 q43 q1183 hdX3_start ⟨by decide, by decide⟩ hl.1 rfl rfl (Nat.le_of_ble_eq_true rfl) ⟨Nat.le_of_ble_eq_true rfl, Nat.le_of_ble_eq_true rfl⟩ hS (fun q e => Or.inl (Or.inl e)) (fun q z => Or.inr z) dX3_rises_16 (fun rv_c_2 H_c_2 locs hp_c_2 k_c_2 hS => ?_)
  have kw := kw.then k_c_2 (fun q e _ => Or.inl e)
  have hK := hK.keep k_c_2 (fun q e => by have e : q = h := e; omega)
  obtain ⟨th_r_3, hth_r_3, rfl, hw_r_3⟩ := hp_c_2
  refine W.eq (g2 := F0 m 19 ls [.int (iI (b2i (0 < (th_r_3))))]) rfl ?_
  refine xi_ifb_ne (tgt := 26) hx hb dX3_rises_19 (by decide) (fun c_19 => ?_) (fun c_19 => ?_)
  · skip
    obtain rfl : th_r_3 = 1 := by omega
    refine xi_iconst hx hb dX3_rises_26 ?_
    refine x_ret1z (E := False) hx hb hr hlk hH hS (by omega) (by omega) rfl ?_ dX3_rises_27
    first | (exfalso; omega) | exact ⟨(_, _, _, _, _), (by unfold op_rises; (repeat (first | with_reducible refine ifp (by omega) ?_ | with_reducible refine ifn (by omega) ?_)); first | rfl | exact comeF_s (by assumption) | exact comeF_n (by assumption) | exact comeF_s (if_pos (by omega)) | exact comeF_n (if_neg (by omega))), rfl, hw_r_3⟩
  · skip
    obtain rfl : th_r_3 = 0 := by omega
    refine xi_iconst hx hb dX3_rises_22 ?_
    refine lv_goto (tgt := 27) hx hb dX3_rises_23 (by decide) ?_
    refine x_ret1z (E := True) hx hb hr hlk hH hS (by omega) (by omega) rfl ?_ dX3_rises_27
    first | (exfalso; omega) | exact ⟨(_, _, _, _, _), (by unfold op_rises; (repeat (first | with_reducible refine ifp (by omega) ?_ | with_reducible refine ifn (by omega) ?_)); first | rfl | exact comeF_s (by assumption) | exact comeF_n (by assumption) | exact comeF_s (if_pos (by omega)) | exact comeF_n (if_neg (by omega))), rfl, hw_r_3⟩

theorem hpX3_opposite : plainFor yX3_opposite = true := by decide +kernel
theorem hdX3_opposite : nMH yX3_opposite 1 := by decide +kernel
set_option maxHeartbeats 4000000 in
theorem c_X3_opposite (l : Launch) (G : GG) (H0 : Heap) (mc : Nat) (th : Int) (ac : Int) (no : Int) (kn : Int) (cc : Nat → Row) (h : Nat) (t : Int) (r_t : -2147483648 ≤ t ∧ t < 2147483648) (hac : 0 ≤ ac ∧ ac ≤ 1000) (hno : 0 ≤ no ∧ no ≤ 1000) (hkn : 0 ≤ kn ∧ kn ≤ 1000) (hok : ∀ k : Nat, k < 8 → okR (cc k)) (hw : MW G (h) (mc) (th) (ac) (no) (kn) (cc) H0) : Ct1 l G yX3_opposite cX3_opposite 2 (Option.some Jvm.ClassFile.FieldType.boolean) 2 0 0 44 [.ref (h), .int (iI (t))] H0 (fun q => q = h ∨ q = mc) (fun (rv : Option Value) (H1 : Heap) => ∃ z : Res, op_opposite ac no cc (t) = z ∧ rv = some (.int (iI z.2.1)) ∧ MW G h mc z.1 z.2.2.1 z.2.2.2.1 kn z.2.2.2.2 H1) := by
  refine Ct1.start hpX3_opposite (Nat.le_of_ble_eq_true rfl) ?_
  intro p e s m below meth c ls hx hb hr S hlk hname hH hK hS hl
  have hl : lv_has ls 2 [(0, .ref (h)), (1, .int (iI (t)))] := hl
  have hbc : ∀ k : Nat, k < 8 → bRow (cc k) := fun k h => okR_b (hok k h)
  have kw : Keep (fun q => q = h ∨ q = mc) H0 H0 := Keep.rf
  have hz0 := hK.2.2.1
  refine lv_aload_n hx hb dX3_opposite_0 rfl (lv_at hl 0 rfl) ?_
  refine lv_iload_n hx hb dX3_opposite_1 rfl (lv_at hl 1 rfl) ?_
  refine xi_i2l hx hb (by omega) dX3_opposite_2 ?_
  refine xi_ldc2 (z := -65535) hx hb S.2.2.2.1 S.2.2.2.2 q1188 (by decide +kernel) dX3_opposite_3 ?_
  refine xi_ldc2 (z := 65535) hx hb S.2.2.2.1 S.2.2.2.2 q1189 (by decide +kernel) dX3_opposite_6 ?_
  refine x_c0S (as := [.long (jI (t)), .long (jI (-65535)), .long (jI (65535))]) (rest := [.ref (h)]) S hK (c_X3_isIn l G H0 (t) (-65535) (65535) (by omega) (by omega) (by omega) ) q1177 q1178 q43 q1179 hdX3_isIn ⟨by decide, by decide⟩ hl.1 rfl rfl (Nat.le_of_ble_eq_true rfl) ⟨Nat.le_of_ble_eq_true rfl, Nat.le_of_ble_eq_true rfl⟩ dX3_opposite_9 ?_
  refine xi_ifb_ne (tgt := 19) hx hb dX3_opposite_12 (by decide) (fun c_12 => ?_) (fun c_12 => ?_)
  · skip
    refine xi_iconst hx hb dX3_opposite_19 ?_
    refine xi_iconst hx hb dX3_opposite_20 ?_
    have hw_o_1 := hw
    obtain ⟨rb_o_1, hm_o_1, hq_o_1, hr_o_1, hza_o_1, hzc_o_1⟩ := hw_o_1
    refine x_c1V (as := [.int (iI (0)), .int (iI (1))]) (rest := []) S hK hm_o_1 rfl rfl (c_X3_start l G H0 (mc) (th) (ac) (no) (kn) (cc) (h) (False) (1) (by omega) (by first | assumption | omega) (by first | assumption | omega) (by first | assumption | omega) (by assumption) (by omega) hw) q1180 q1182 qs9 q43 q1183 hdX3_start ⟨by decide, by decide⟩ hl.1 rfl rfl (Nat.le_of_ble_eq_true rfl) ⟨Nat.le_of_ble_eq_true rfl, Nat.le_of_ble_eq_true rfl⟩ hS (fun q e => Or.inl (Or.inl e)) (fun q z => Or.inr z) dX3_opposite_21 (fun rv_c_2 H_c_2 locs hp_c_2 k_c_2 hS => ?_)
    have kw := kw.then k_c_2 (fun q e _ => Or.inl e)
    have hK := hK.keep k_c_2 (fun q e => by have e : q = h := e; omega)
    obtain ⟨th_r_3, hth_r_3, rfl, hw_r_3⟩ := hp_c_2
    have hth_r_3 := hth_r_3.elim (fun z => z.1.elim) (fun z => z.2)
    refine W.eq (g2 := F0 m 24 ls [.int (iI (b2i (0 < (th_r_3))))]) rfl ?_
    refine xi_ifb_ne (tgt := 31) hx hb dX3_opposite_24 (by decide) (fun c_24 => ?_) (fun c_24 => ?_)
    · skip
      obtain rfl : th_r_3 = 1 := by omega
      refine xi_iconst hx hb dX3_opposite_31 ?_
      refine x_ret1z (E := False) hx hb hr hlk hH hS (by omega) (by omega) rfl ?_ dX3_opposite_32
      first | (exfalso; omega) | exact ⟨(_, _, _, _, _), (by unfold op_opposite; (repeat (first | with_reducible refine ifp (by omega) ?_ | with_reducible refine ifn (by omega) ?_)); first | rfl | exact comeF_s (by assumption) | exact comeF_n (by assumption) | exact comeF_s (if_pos (by omega)) | exact comeF_n (if_neg (by omega))), rfl, hw_r_3⟩
    · skip
      obtain rfl : th_r_3 = 0 := by omega
      refine xi_iconst hx hb dX3_opposite_27 ?_
      refine lv_goto (tgt := 32) hx hb dX3_opposite_28 (by decide) ?_
      refine x_ret1z (E := True) hx hb hr hlk hH hS (by omega) (by omega) rfl ?_ dX3_opposite_32
      first | (exfalso; omega) | exact ⟨(_, _, _, _, _), (by unfold op_opposite; (repeat (first | with_reducible refine ifp (by omega) ?_ | with_reducible refine ifn (by omega) ?_)); first | rfl | exact comeF_s (by assumption) | exact comeF_n (by assumption) | exact comeF_s (if_pos (by omega)) | exact comeF_n (if_neg (by omega))), rfl, hw_r_3⟩
  · skip
    refine xi_iconst hx hb dX3_opposite_15 ?_
    refine lv_goto (tgt := 20) hx hb dX3_opposite_16 (by decide) ?_
    refine xi_iconst hx hb dX3_opposite_20 ?_
    have hw_o_4 := hw
    obtain ⟨rb_o_4, hm_o_4, hq_o_4, hr_o_4, hza_o_4, hzc_o_4⟩ := hw_o_4
    refine x_c1V (as := [.int (iI (1)), .int (iI (1))]) (rest := []) S hK hm_o_4 rfl rfl (c_X3_start l G H0 (mc) (th) (ac) (no) (kn) (cc) (h) (True) (1) (by omega) (by first | assumption | omega) (by first | assumption | omega) (by first | assumption | omega) (by assumption) (by omega) hw) q1180 q1182 qs9 q43 q1183 hdX3_start ⟨by decide, by decide⟩ hl.1 rfl rfl (Nat.le_of_ble_eq_true rfl) ⟨Nat.le_of_ble_eq_true rfl, Nat.le_of_ble_eq_true rfl⟩ hS (fun q e => Or.inl (Or.inl e)) (fun q z => Or.inr z) dX3_opposite_21 (fun rv_c_5 H_c_5 locs hp_c_5 k_c_5 hS => ?_)
    have kw := kw.then k_c_5 (fun q e _ => Or.inl e)
    have hK := hK.keep k_c_5 (fun q e => by have e : q = h := e; omega)
    obtain ⟨th_r_6, hth_r_6, rfl, hw_r_6⟩ := hp_c_5
    have hth_r_6 := hth_r_6.elim (fun z => z.2) (fun z => absurd trivial z.1)
    refine W.eq (g2 := F0 m 24 ls [.int (iI (b2i (0 < (th_r_6))))]) rfl ?_
    refine xi_ifb_ne (tgt := 31) hx hb dX3_opposite_24 (by decide) (fun c_24 => ?_) (fun c_24 => ?_)
    · skip
      obtain rfl : th_r_6 = 1 := by omega
      refine xi_iconst hx hb dX3_opposite_31 ?_
      refine x_ret1z (E := False) hx hb hr hlk hH hS (by omega) (by omega) rfl ?_ dX3_opposite_32
      first | (exfalso; omega) | exact ⟨(_, _, _, _, _), (by unfold op_opposite; (repeat (first | with_reducible refine ifp (by omega) ?_ | with_reducible refine ifn (by omega) ?_)); first | rfl | exact comeF_s (by assumption) | exact comeF_n (by assumption) | exact comeF_s (if_pos (by omega)) | exact comeF_n (if_neg (by omega))), rfl, hw_r_6⟩
    · skip
      obtain rfl : th_r_6 = 0 := by omega
      refine xi_iconst hx hb dX3_opposite_27 ?_
      refine lv_goto (tgt := 32) hx hb dX3_opposite_28 (by decide) ?_
      refine x_ret1z (E := True) hx hb hr hlk hH hS (by omega) (by omega) rfl ?_ dX3_opposite_32
      first | (exfalso; omega) | exact ⟨(_, _, _, _, _), (by unfold op_opposite; (repeat (first | with_reducible refine ifp (by omega) ?_ | with_reducible refine ifn (by omega) ?_)); first | rfl | exact comeF_s (by assumption) | exact comeF_n (by assumption) | exact comeF_s (if_pos (by omega)) | exact comeF_n (if_neg (by omega))), rfl, hw_r_6⟩

theorem hpX3_eight : plainFor yX3_eight = true := by decide +kernel
theorem hdX3_eight : nMH yX3_eight 1 := by decide +kernel
set_option maxHeartbeats 4000000 in
theorem c_X3_eight (l : Launch) (G : GG) (H0 : Heap) (mc : Nat) (th : Int) (ac : Int) (no : Int) (kn : Int) (cc : Nat → Row) (h : Nat) (t : Int) (r_t : -2147483648 ≤ t ∧ t < 2147483648) (hac : 0 ≤ ac ∧ ac ≤ 1000) (hno : 0 ≤ no ∧ no ≤ 1000) (hkn : 0 ≤ kn ∧ kn ≤ 1000) (hok : ∀ k : Nat, k < 8 → okR (cc k)) (hw : MW G (h) (mc) (th) (ac) (no) (kn) (cc) H0) : Ct1 l G yX3_eight cX3_eight 2 (Option.some Jvm.ClassFile.FieldType.boolean) 2 0 0 44 [.ref (h), .int (iI (t))] H0 (fun q => q = h ∨ q = mc) (fun (rv : Option Value) (H1 : Heap) => ∃ z : Res, op_eight ac no cc (t) = z ∧ rv = some (.int (iI z.2.1)) ∧ MW G h mc z.1 z.2.2.1 z.2.2.2.1 kn z.2.2.2.2 H1) := by
  refine Ct1.start hpX3_eight (Nat.le_of_ble_eq_true rfl) ?_
  intro p e s m below meth c ls hx hb hr S hlk hname hH hK hS hl
  have hl : lv_has ls 2 [(0, .ref (h)), (1, .int (iI (t)))] := hl
  have hbc : ∀ k : Nat, k < 8 → bRow (cc k) := fun k h => okR_b (hok k h)
  have kw : Keep (fun q => q = h ∨ q = mc) H0 H0 := Keep.rf
  have hz0 := hK.2.2.1
  refine lv_aload_n hx hb dX3_eight_0 rfl (lv_at hl 0 rfl) ?_
  refine lv_iload_n hx hb dX3_eight_1 rfl (lv_at hl 1 rfl) ?_
  refine xi_i2l hx hb (by omega) dX3_eight_2 ?_
  refine xi_ldc2 (z := -65535) hx hb S.2.2.2.1 S.2.2.2.2 q1188 (by decide +kernel) dX3_eight_3 ?_
  refine xi_ldc2 (z := 65535) hx hb S.2.2.2.1 S.2.2.2.2 q1189 (by decide +kernel) dX3_eight_6 ?_
  refine x_c0S (as := [.long (jI (t)), .long (jI (-65535)), .long (jI (65535))]) (rest := [.ref (h)]) S hK (c_X3_isIn l G H0 (t) (-65535) (65535) (by omega) (by omega) (by omega) ) q1177 q1178 q43 q1179 hdX3_isIn ⟨by decide, by decide⟩ hl.1 rfl rfl (Nat.le_of_ble_eq_true rfl) ⟨Nat.le_of_ble_eq_true rfl, Nat.le_of_ble_eq_true rfl⟩ dX3_eight_9 ?_
  refine xi_ifb_ne (tgt := 19) hx hb dX3_eight_12 (by decide) (fun c_12 => ?_) (fun c_12 => ?_)
  · skip
    refine xi_iconst hx hb dX3_eight_19 ?_
    refine xi_iconst hx hb dX3_eight_20 ?_
    have hw_o_1 := hw
    obtain ⟨rb_o_1, hm_o_1, hq_o_1, hr_o_1, hza_o_1, hzc_o_1⟩ := hw_o_1
    refine x_c1V (as := [.int (iI (0)), .int (iI (1))]) (rest := []) S hK hm_o_1 rfl rfl (c_X3_start l G H0 (mc) (th) (ac) (no) (kn) (cc) (h) (False) (1) (by omega) (by first | assumption | omega) (by first | assumption | omega) (by first | assumption | omega) (by assumption) (by omega) hw) q1180 q1182 qs9 q43 q1183 hdX3_start ⟨by decide, by decide⟩ hl.1 rfl rfl (Nat.le_of_ble_eq_true rfl) ⟨Nat.le_of_ble_eq_true rfl, Nat.le_of_ble_eq_true rfl⟩ hS (fun q e => Or.inl (Or.inl e)) (fun q z => Or.inr z) dX3_eight_21 (fun rv_c_2 H_c_2 locs hp_c_2 k_c_2 hS => ?_)
    have kw := kw.then k_c_2 (fun q e _ => Or.inl e)
    have hK := hK.keep k_c_2 (fun q e => by have e : q = h := e; omega)
    obtain ⟨th_r_3, hth_r_3, rfl, hw_r_3⟩ := hp_c_2
    have hth_r_3 := hth_r_3.elim (fun z => z.1.elim) (fun z => z.2)
    refine W.eq (g2 := F0 m 24 ls [.int (iI (b2i (0 < (th_r_3))))]) rfl ?_
    refine xi_ifb_ne (tgt := 31) hx hb dX3_eight_24 (by decide) (fun c_24 => ?_) (fun c_24 => ?_)
    · skip
      obtain rfl : th_r_3 = 1 := by omega
      refine xi_iconst hx hb dX3_eight_31 ?_
      refine x_ret1z (E := False) hx hb hr hlk hH hS (by omega) (by omega) rfl ?_ dX3_eight_32
      first | (exfalso; omega) | exact ⟨(_, _, _, _, _), (by unfold op_eight; (repeat (first | with_reducible refine ifp (by omega) ?_ | with_reducible refine ifn (by omega) ?_)); first | rfl | exact comeF_s (by assumption) | exact comeF_n (by assumption) | exact comeF_s (if_pos (by omega)) | exact comeF_n (if_neg (by omega))), rfl, hw_r_3⟩
    · skip
      obtain rfl : th_r_3 = 0 := by omega
      refine xi_iconst hx hb dX3_eight_27 ?_
      refine lv_goto (tgt := 32) hx hb dX3_eight_28 (by decide) ?_
      refine x_ret1z (E := True) hx hb hr hlk hH hS (by omega) (by omega) rfl ?_ dX3_eight_32
      first | (exfalso; omega) | exact ⟨(_, _, _, _, _), (by unfold op_eight; (repeat (first | with_reducible refine ifp (by omega) ?_ | with_reducible refine ifn (by omega) ?_)); first | rfl | exact comeF_s (by assumption) | exact comeF_n (by assumption) | exact comeF_s (if_pos (by omega)) | exact comeF_n (if_neg (by omega))), rfl, hw_r_3⟩
  · skip
    refine xi_iconst hx hb dX3_eight_15 ?_
    refine lv_goto (tgt := 20) hx hb dX3_eight_16 (by decide) ?_
    refine xi_iconst hx hb dX3_eight_20 ?_
    have hw_o_4 := hw
    obtain ⟨rb_o_4, hm_o_4, hq_o_4, hr_o_4, hza_o_4, hzc_o_4⟩ := hw_o_4
    refine x_c1V (as := [.int (iI (1)), .int (iI (1))]) (rest := []) S hK hm_o_4 rfl rfl (c_X3_start l G H0 (mc) (th) (ac) (no) (kn) (cc) (h) (True) (1) (by omega) (by first | assumption | omega) (by first | assumption | omega) (by first | assumption | omega) (by assumption) (by omega) hw) q1180 q1182 qs9 q43 q1183 hdX3_start ⟨by decide, by decide⟩ hl.1 rfl rfl (Nat.le_of_ble_eq_true rfl) ⟨Nat.le_of_ble_eq_true rfl, Nat.le_of_ble_eq_true rfl⟩ hS (fun q e => Or.inl (Or.inl e)) (fun q z => Or.inr z) dX3_eight_21 (fun rv_c_5 H_c_5 locs hp_c_5 k_c_5 hS => ?_)
    have kw := kw.then k_c_5 (fun q e _ => Or.inl e)
    have hK := hK.keep k_c_5 (fun q e => by have e : q = h := e; omega)
    obtain ⟨th_r_6, hth_r_6, rfl, hw_r_6⟩ := hp_c_5
    have hth_r_6 := hth_r_6.elim (fun z => z.2) (fun z => absurd trivial z.1)
    refine W.eq (g2 := F0 m 24 ls [.int (iI (b2i (0 < (th_r_6))))]) rfl ?_
    refine xi_ifb_ne (tgt := 31) hx hb dX3_eight_24 (by decide) (fun c_24 => ?_) (fun c_24 => ?_)
    · skip
      obtain rfl : th_r_6 = 1 := by omega
      refine xi_iconst hx hb dX3_eight_31 ?_
      refine x_ret1z (E := False) hx hb hr hlk hH hS (by omega) (by omega) rfl ?_ dX3_eight_32
      first | (exfalso; omega) | exact ⟨(_, _, _, _, _), (by unfold op_eight; (repeat (first | with_reducible refine ifp (by omega) ?_ | with_reducible refine ifn (by omega) ?_)); first | rfl | exact comeF_s (by assumption) | exact comeF_n (by assumption) | exact comeF_s (if_pos (by omega)) | exact comeF_n (if_neg (by omega))), rfl, hw_r_6⟩
    · skip
      obtain rfl : th_r_6 = 0 := by omega
      refine xi_iconst hx hb dX3_eight_27 ?_
      refine lv_goto (tgt := 32) hx hb dX3_eight_28 (by decide) ?_
      refine x_ret1z (E := True) hx hb hr hlk hH hS (by omega) (by omega) rfl ?_ dX3_eight_32
      first | (exfalso; omega) | exact ⟨(_, _, _, _, _), (by unfold op_eight; (repeat (first | with_reducible refine ifp (by omega) ?_ | with_reducible refine ifn (by omega) ?_)); first | rfl | exact comeF_s (by assumption) | exact comeF_n (by assumption) | exact comeF_s (if_pos (by omega)) | exact comeF_n (if_neg (by omega))), rfl, hw_r_6⟩

theorem hpX3_comesNear : plainFor yX3_comesNear = true := by decide +kernel
theorem hdX3_comesNear : nMH yX3_comesNear 1 := by decide +kernel
set_option maxHeartbeats 4000000 in
theorem c_X3_comesNear (l : Launch) (G : GG) (H0 : Heap) (mc : Nat) (th : Int) (ac : Int) (no : Int) (kn : Int) (cc : Nat → Row) (h : Nat) (t : Int) (r_t : -2147483648 ≤ t ∧ t < 2147483648) (hac : 0 ≤ ac ∧ ac ≤ 1000) (hno : 0 ≤ no ∧ no ≤ 1000) (hkn : 0 ≤ kn ∧ kn ≤ 1000) (hok : ∀ k : Nat, k < 8 → okR (cc k)) (hw : MW G (h) (mc) (th) (ac) (no) (kn) (cc) H0) : Ct1 l G yX3_comesNear cX3_comesNear 2 (Option.some Jvm.ClassFile.FieldType.boolean) 2 0 0 44 [.ref (h), .int (iI (t))] H0 (fun q => q = h ∨ q = mc) (fun (rv : Option Value) (H1 : Heap) => ∃ z : Res, op_comesNear ac no cc (t) = z ∧ rv = some (.int (iI z.2.1)) ∧ MW G h mc z.1 z.2.2.1 z.2.2.2.1 kn z.2.2.2.2 H1) := by
  refine Ct1.start hpX3_comesNear (Nat.le_of_ble_eq_true rfl) ?_
  intro p e s m below meth c ls hx hb hr S hlk hname hH hK hS hl
  have hl : lv_has ls 2 [(0, .ref (h)), (1, .int (iI (t)))] := hl
  have hbc : ∀ k : Nat, k < 8 → bRow (cc k) := fun k h => okR_b (hok k h)
  have kw : Keep (fun q => q = h ∨ q = mc) H0 H0 := Keep.rf
  have hz0 := hK.2.2.1
  refine lv_aload_n hx hb dX3_comesNear_0 rfl (lv_at hl 0 rfl) ?_
  refine lv_iload_n hx hb dX3_comesNear_1 rfl (lv_at hl 1 rfl) ?_
  refine xi_i2l hx hb (by omega) dX3_comesNear_2 ?_
  refine xi_lconst (z := 1) hx hb (by decide +kernel) dX3_comesNear_3 ?_
  refine xi_ldc2 (z := 65535) hx hb S.2.2.2.1 S.2.2.2.2 q1189 (by decide +kernel) dX3_comesNear_4 ?_
  refine x_c0S (as := [.long (jI (t)), .long (jI (1)), .long (jI (65535))]) (rest := [.ref (h)]) S hK (c_X3_isIn l G H0 (t) (1) (65535) (by omega) (by omega) (by omega) ) q1177 q1178 q43 q1179 hdX3_isIn ⟨by decide, by decide⟩ hl.1 rfl rfl (Nat.le_of_ble_eq_true rfl) ⟨Nat.le_of_ble_eq_true rfl, Nat.le_of_ble_eq_true rfl⟩ dX3_comesNear_7 ?_
  refine xi_ifb_ne (tgt := 17) hx hb dX3_comesNear_10 (by decide) (fun c_10 => ?_) (fun c_10 => ?_)
  · skip
    refine xi_iconst hx hb dX3_comesNear_17 ?_
    refine xi_iconst hx hb dX3_comesNear_18 ?_
    have hw_o_1 := hw
    obtain ⟨rb_o_1, hm_o_1, hq_o_1, hr_o_1, hza_o_1, hzc_o_1⟩ := hw_o_1
    refine x_c1V (as := [.int (iI (0)), .int (iI (1))]) (rest := []) S hK hm_o_1 rfl rfl (c_X3_start l G H0 (mc) (th) (ac) (no) (kn) (cc) (h) (False) (1) (by omega) (by first | assumption | omega) (by first | assumption | omega) (by first | assumption | omega) (by assumption) (by omega) hw) q1180 q1182 qs9 q43 q1183 hdX3_start ⟨by decide, by decide⟩ hl.1 rfl rfl (Nat.le_of_ble_eq_true rfl) ⟨Nat.le_of_ble_eq_true rfl, Nat.le_of_ble_eq_true rfl⟩ hS (fun q e => Or.inl (Or.inl e)) (fun q z => Or.inr z) dX3_comesNear_19 (fun rv_c_2 H_c_2 locs hp_c_2 k_c_2 hS => ?_)
    have kw := kw.then k_c_2 (fun q e _ => Or.inl e)
    have hK := hK.keep k_c_2 (fun q e => by have e : q = h := e; omega)
    obtain ⟨th_r_3, hth_r_3, rfl, hw_r_3⟩ := hp_c_2
    have hth_r_3 := hth_r_3.elim (fun z => z.1.elim) (fun z => z.2)
    refine W.eq (g2 := F0 m 22 ls [.int (iI (b2i (0 < (th_r_3))))]) rfl ?_
    refine xi_ifb_ne (tgt := 29) hx hb dX3_comesNear_22 (by decide) (fun c_22 => ?_) (fun c_22 => ?_)
    · skip
      obtain rfl : th_r_3 = 1 := by omega
      refine xi_iconst hx hb dX3_comesNear_29 ?_
      refine x_ret1z (E := False) hx hb hr hlk hH hS (by omega) (by omega) rfl ?_ dX3_comesNear_30
      first | (exfalso; omega) | exact ⟨(_, _, _, _, _), (by unfold op_comesNear; (repeat (first | with_reducible refine ifp (by omega) ?_ | with_reducible refine ifn (by omega) ?_)); first | rfl | exact comeF_s (by assumption) | exact comeF_n (by assumption) | exact comeF_s (if_pos (by omega)) | exact comeF_n (if_neg (by omega))), rfl, hw_r_3⟩
    · skip
      obtain rfl : th_r_3 = 0 := by omega
      refine xi_iconst hx hb dX3_comesNear_25 ?_
      refine lv_goto (tgt := 30) hx hb dX3_comesNear_26 (by decide) ?_
      refine x_ret1z (E := True) hx hb hr hlk hH hS (by omega) (by omega) rfl ?_ dX3_comesNear_30
      first | (exfalso; omega) | exact ⟨(_, _, _, _, _), (by unfold op_comesNear; (repeat (first | with_reducible refine ifp (by omega) ?_ | with_reducible refine ifn (by omega) ?_)); first | rfl | exact comeF_s (by assumption) | exact comeF_n (by assumption) | exact comeF_s (if_pos (by omega)) | exact comeF_n (if_neg (by omega))), rfl, hw_r_3⟩
  · skip
    refine xi_iconst hx hb dX3_comesNear_13 ?_
    refine lv_goto (tgt := 18) hx hb dX3_comesNear_14 (by decide) ?_
    refine xi_iconst hx hb dX3_comesNear_18 ?_
    have hw_o_4 := hw
    obtain ⟨rb_o_4, hm_o_4, hq_o_4, hr_o_4, hza_o_4, hzc_o_4⟩ := hw_o_4
    refine x_c1V (as := [.int (iI (1)), .int (iI (1))]) (rest := []) S hK hm_o_4 rfl rfl (c_X3_start l G H0 (mc) (th) (ac) (no) (kn) (cc) (h) (True) (1) (by omega) (by first | assumption | omega) (by first | assumption | omega) (by first | assumption | omega) (by assumption) (by omega) hw) q1180 q1182 qs9 q43 q1183 hdX3_start ⟨by decide, by decide⟩ hl.1 rfl rfl (Nat.le_of_ble_eq_true rfl) ⟨Nat.le_of_ble_eq_true rfl, Nat.le_of_ble_eq_true rfl⟩ hS (fun q e => Or.inl (Or.inl e)) (fun q z => Or.inr z) dX3_comesNear_19 (fun rv_c_5 H_c_5 locs hp_c_5 k_c_5 hS => ?_)
    have kw := kw.then k_c_5 (fun q e _ => Or.inl e)
    have hK := hK.keep k_c_5 (fun q e => by have e : q = h := e; omega)
    obtain ⟨th_r_6, hth_r_6, rfl, hw_r_6⟩ := hp_c_5
    have hth_r_6 := hth_r_6.elim (fun z => z.2) (fun z => absurd trivial z.1)
    refine W.eq (g2 := F0 m 22 ls [.int (iI (b2i (0 < (th_r_6))))]) rfl ?_
    refine xi_ifb_ne (tgt := 29) hx hb dX3_comesNear_22 (by decide) (fun c_22 => ?_) (fun c_22 => ?_)
    · skip
      obtain rfl : th_r_6 = 1 := by omega
      refine xi_iconst hx hb dX3_comesNear_29 ?_
      refine x_ret1z (E := False) hx hb hr hlk hH hS (by omega) (by omega) rfl ?_ dX3_comesNear_30
      first | (exfalso; omega) | exact ⟨(_, _, _, _, _), (by unfold op_comesNear; (repeat (first | with_reducible refine ifp (by omega) ?_ | with_reducible refine ifn (by omega) ?_)); first | rfl | exact comeF_s (by assumption) | exact comeF_n (by assumption) | exact comeF_s (if_pos (by omega)) | exact comeF_n (if_neg (by omega))), rfl, hw_r_6⟩
    · skip
      obtain rfl : th_r_6 = 0 := by omega
      refine xi_iconst hx hb dX3_comesNear_25 ?_
      refine lv_goto (tgt := 30) hx hb dX3_comesNear_26 (by decide) ?_
      refine x_ret1z (E := True) hx hb hr hlk hH hS (by omega) (by omega) rfl ?_ dX3_comesNear_30
      first | (exfalso; omega) | exact ⟨(_, _, _, _, _), (by unfold op_comesNear; (repeat (first | with_reducible refine ifp (by omega) ?_ | with_reducible refine ifn (by omega) ?_)); first | rfl | exact comeF_s (by assumption) | exact comeF_n (by assumption) | exact comeF_s (if_pos (by omega)) | exact comeF_n (if_neg (by omega))), rfl, hw_r_6⟩

