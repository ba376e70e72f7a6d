set_option maxRecDepth 100000
theorem hpX3_refuse : plainFor yX3_refuse = true := by decide +kernel
theorem hdX3_refuse : nMH yX3_refuse 2 := by decide +kernel
set_option maxHeartbeats 4000000 in
theorem c_X3_refuse (l : Launch) (G : GG) (H0 : Heap) (mc : Nat) (th : Int) (ac : Int) (no : Int) (kn : Int) (cc : Nat → Row) (h : Nat) (P : Prop) [Decidable P] (w : Int) (r_w : -2147483648 ≤ w ∧ w < 2147483648) (hac : 0 ≤ ac ∧ ac ≤ 1000) (hno : 0 ≤ no ∧ no ≤ 1000) (hkn : 0 ≤ kn ∧ kn ≤ 1000) (hok : ∀ k : Nat, k < 8 → okR (cc k)) (ht : 0 ≤ th ∧ th ≤ 10) (hwp : 0 < w ∧ w ≤ 10) (hw : MW G (h) (mc) (th) (ac) (no) (kn) (cc) H0) : Ct1 l G yX3_refuse cX3_refuse 3 (Option.some Jvm.ClassFile.FieldType.boolean) 0 0 0 0 [.ref (h), .int (iI (b2i (P))), .int (iI (w))] H0 (fun q => q = h) (fun (rv : Option Value) (H1 : Heap) => ∃ tx : Int, (((P ∧ th = 0) ∧ tx = w) ∨ (¬ (P ∧ th = 0) ∧ tx = th)) ∧ rv = some (.int (iI (b2i (0 < tx)))) ∧ MW G h mc tx ac no kn cc H1) := by
  refine Ct1.start hpX3_refuse (Nat.le_of_ble_eq_true rfl) ?_
  intro p e s m below meth c ls hx hb hr S hlk hname hH hK hS hl
  have hl : lv_has ls 3 [(0, .ref (h)), (1, .int (iI (b2i (P)))), (2, .int (iI (w)))] := hl
  have hbc : ∀ k : Nat, k < 8 → bRow (cc k) := fun k h => okR_b (hok k h)
  have kw : Keep (fun q => q = h) H0 H0 := Keep.rf
  have hz0 := hK.2.2.1
  refine lv_iload_n hx hb dX3_refuse_0 rfl (lv_at hl 1 rfl) ?_
  refine xi_ifb_eq (tgt := 16) hx hb dX3_refuse_1 (by decide) (fun c_1 => ?_) (fun c_1 => ?_)
  · skip
    refine lv_aload_n hx hb dX3_refuse_16 rfl (lv_at hl 0 rfl) ?_
    have hw_o_1 := hw
    obtain ⟨rb_o_1, hm_o_1, hq_o_1, hr_o_1, hza_o_1, hzc_o_1⟩ := hw_o_1
    refine x_get S hK in_X3 hm_o_1 rfl 0 (by decide) q1148 (fun x h => h) rfl dX3_refuse_17 ?_
    refine xi_if_le (tgt := 27) hx hb dX3_refuse_20 (by decide) (by omega) (fun c_20 => ?_) (fun c_20 => ?_)
    · skip
      refine xi_iconst hx hb dX3_refuse_27 ?_
      refine x_ret1z (E := False) hx hb hr hlk hH hS (by omega) (by omega) rfl ?_ dX3_refuse_28
      exact ⟨th, (by first | exact Or.inl ⟨⟨by assumption, by omega⟩, rfl⟩ | exact Or.inr ⟨fun z => absurd z.1 (by assumption), rfl⟩ | exact Or.inr ⟨fun z => absurd z.2 (by omega), rfl⟩), (by rw [b2i_0 (by omega)]), ⟨rb_o_1, hm_o_1, hq_o_1, hr_o_1, hza_o_1, hzc_o_1⟩⟩
    · skip
      refine xi_iconst hx hb dX3_refuse_23 ?_
      refine lv_goto (tgt := 28) hx hb dX3_refuse_24 (by decide) ?_
      refine x_ret1z (E := True) hx hb hr hlk hH hS (by omega) (by omega) rfl ?_ dX3_refuse_28
      exact ⟨th, (by first | exact Or.inl ⟨⟨by assumption, by omega⟩, rfl⟩ | exact Or.inr ⟨fun z => absurd z.1 (by assumption), rfl⟩ | exact Or.inr ⟨fun z => absurd z.2 (by omega), rfl⟩), (by rw [b2i_1 (by omega)]), ⟨rb_o_1, hm_o_1, hq_o_1, hr_o_1, hza_o_1, hzc_o_1⟩⟩
  · skip
    refine lv_aload_n hx hb dX3_refuse_4 rfl (lv_at hl 0 rfl) ?_
    have hw_o_2 := hw
    obtain ⟨rb_o_2, hm_o_2, hq_o_2, hr_o_2, hza_o_2, hzc_o_2⟩ := hw_o_2
    refine x_get S hK in_X3 hm_o_2 rfl 0 (by decide) q1148 (fun x h => h) rfl dX3_refuse_5 ?_
    refine xi_if_ne (tgt := 16) hx hb dX3_refuse_8 (by decide) (by omega) (fun c_8 => ?_) (fun c_8 => ?_)
    · skip
      refine lv_aload_n hx hb dX3_refuse_16 rfl (lv_at hl 0 rfl) ?_
      refine x_get S hK in_X3 hm_o_2 rfl 0 (by decide) q1148 (fun x h => h) rfl dX3_refuse_17 ?_
      refine xi_if_le (tgt := 27) hx hb dX3_refuse_20 (by decide) (by omega) (fun c_20 => ?_) (fun c_20 => ?_)
      · skip
        refine xi_iconst hx hb dX3_refuse_27 ?_
        refine x_ret1z (E := False) hx hb hr hlk hH hS (by omega) (by omega) rfl ?_ dX3_refuse_28
        exact ⟨th, (by first | exact Or.inl ⟨⟨by assumption, by omega⟩, rfl⟩ | exact Or.inr ⟨fun z => absurd z.1 (by assumption), rfl⟩ | exact Or.inr ⟨fun z => absurd z.2 (by omega), rfl⟩), (by rw [b2i_0 (by omega)]), ⟨rb_o_2, hm_o_2, hq_o_2, hr_o_2, hza_o_2, hzc_o_2⟩⟩
      · skip
        refine xi_iconst hx hb dX3_refuse_23 ?_
        refine lv_goto (tgt := 28) hx hb dX3_refuse_24 (by decide) ?_
        refine x_ret1z (E := True) hx hb hr hlk hH hS (by omega) (by omega) rfl ?_ dX3_refuse_28
        exact ⟨th, (by first | exact Or.inl ⟨⟨by assumption, by omega⟩, rfl⟩ | exact Or.inr ⟨fun z => absurd z.1 (by assumption), rfl⟩ | exact Or.inr ⟨fun z => absurd z.2 (by omega), rfl⟩), (by rw [b2i_1 (by omega)]), ⟨rb_o_2, hm_o_2, hq_o_2, hr_o_2, hza_o_2, hzc_o_2⟩⟩
    · skip
      refine lv_aload_n hx hb dX3_refuse_11 rfl (lv_at hl 0 rfl) ?_
      refine lv_iload_n hx hb dX3_refuse_12 rfl (lv_at hl 2 rfl) ?_
      refine x_put S hK in_X3 tyX3 tyX3_ok nmX3 hm_o_2 rfl 0 (by decide) q1148 (fun x h => h) rfl rfl rfl (Nat.le_of_ble_eq_true rfl) hS (Or.inl rfl) dX3_refuse_13 (fun H_p_3 locs hq_p_3 k_p_3 hz_p_3 hS => ?_)
      have kw := kw.then k_p_3 (fun q e _ => e)
      have hK := hK.keep k_p_3 (fun q e => by have e : q = h := e; omega)
      have hq_o_2 := hq_o_2.keep k_p_3 (Ne.symm (ne_oa hK rfl rfl hm_o_2 hq_o_2))
      have hr_o_2 := hr_o_2.keep k_p_3 (fun j hj => (Ne.symm (ne_oa hK rfl rfl hm_o_2 (hr_o_2 j hj))))
      have hm_o_2 : MdAt G (h) (w) (ac) (no) (kn) (mc) H_p_3 := hq_p_3
      refine lv_aload_n hx hb dX3_refuse_16 rfl (lv_at hl 0 rfl) ?_
      refine x_get S hK in_X3 hm_o_2 rfl 0 (by decide) q1148 (fun x h => h) rfl dX3_refuse_17 ?_
      refine xi_if_le (tgt := 27) hx hb dX3_refuse_20 (by decide) (by omega) (fun c_20 => ?_) (fun c_20 => ?_)
      · skip
        refine xi_iconst hx hb dX3_refuse_27 ?_
        refine x_ret1z (E := False) hx hb hr hlk hH hS (by omega) (by omega) rfl ?_ dX3_refuse_28
        exact ⟨w, (by first | exact Or.inl ⟨⟨by assumption, by omega⟩, rfl⟩ | exact Or.inr ⟨fun z => absurd z.1 (by assumption), rfl⟩ | exact Or.inr ⟨fun z => absurd z.2 (by omega), rfl⟩), (by rw [b2i_0 (by omega)]), ⟨rb_o_2, hm_o_2, hq_o_2, hr_o_2, hza_o_2, hzc_o_2⟩⟩
      · skip
        refine xi_iconst hx hb dX3_refuse_23 ?_
        refine lv_goto (tgt := 28) hx hb dX3_refuse_24 (by decide) ?_
        refine x_ret1z (E := True) hx hb hr hlk hH hS (by omega) (by omega) rfl ?_ dX3_refuse_28
        exact ⟨w, (by first | exact Or.inl ⟨⟨by assumption, by omega⟩, rfl⟩ | exact Or.inr ⟨fun z => absurd z.1 (by assumption), rfl⟩ | exact Or.inr ⟨fun z => absurd z.2 (by omega), rfl⟩), (by rw [b2i_1 (by omega)]), ⟨rb_o_2, hm_o_2, hq_o_2, hr_o_2, hza_o_2, hzc_o_2⟩⟩

theorem hpX3_start : plainFor yX3_start = true := by decide +kernel
theorem hdX3_start : nMH yX3_start 2 := by decide +kernel
set_option maxHeartbeats 4000000 in
theorem c_X3_start (l : Launch) (G : GG) (H0 : Heap) (mc : Nat) (th : Int) (ac : Int) (no : Int) (kn : Int) (cc : Nat → Row) (h : Nat) (P : Prop) [Decidable P] (w : Int) (r_w : -2147483648 ≤ w ∧ w < 2147483648) (hac : 0 ≤ ac ∧ ac ≤ 1000) (hno : 0 ≤ no ∧ no ≤ 1000) (hkn : 0 ≤ kn ∧ kn ≤ 1000) (hok : ∀ k : Nat, k < 8 → okR (cc k)) (hwp : 0 < w ∧ w ≤ 10) (hw : MW G (h) (mc) (th) (ac) (no) (kn) (cc) H0) : Ct1 l G yX3_start cX3_start 3 (Option.some Jvm.ClassFile.FieldType.boolean) 1 0 0 22 [.ref (h), .int (iI (b2i (P))), .int (iI (w))] H0 (fun q => q = h) (fun (rv : Option Value) (H1 : Heap) => ∃ tx : Int, ((P ∧ tx = w) ∨ (¬ P ∧ tx = 0)) ∧ rv = some (.int (iI (b2i (0 < tx)))) ∧ MW G h mc tx ac no kn cc H1) := by
  refine Ct1.start hpX3_start (Nat.le_of_ble_eq_true rfl) ?_
  intro p e s m below meth c ls hx hb hr S hlk hname hH hK hS hl
  have hl : lv_has ls 3 [(0, .ref (h)), (1, .int (iI (b2i (P)))), (2, .int (iI (w)))] := hl
  have hbc : ∀ k : Nat, k < 8 → bRow (cc k) := fun k h => okR_b (hok k h)
  have kw : Keep (fun q => q = h) H0 H0 := Keep.rf
  have hz0 := hK.2.2.1
  refine lv_aload_n hx hb dX3_start_0 rfl (lv_at hl 0 rfl) ?_
  refine xi_iconst hx hb dX3_start_1 ?_
  have hw_o_1 := hw
  obtain ⟨rb_o_1, hm_o_1, hq_o_1, hr_o_1, hza_o_1, hzc_o_1⟩ := hw_o_1
  refine x_put S hK in_X3 tyX3 tyX3_ok nmX3 hm_o_1 rfl 0 (by decide) q1148 (fun x h => h) rfl rfl rfl (Nat.le_of_ble_eq_true rfl) hS (Or.inl rfl) dX3_start_2 (fun H_p_2 locs hq_p_2 k_p_2 hz_p_2 hS => ?_)
  have kw := kw.then k_p_2 (fun q e _ => e)
  have hK := hK.keep k_p_2 (fun q e => by have e : q = h := e; omega)
  have hq_o_1 := hq_o_1.keep k_p_2 (Ne.symm (ne_oa hK rfl rfl hm_o_1 hq_o_1))
  have hr_o_1 := hr_o_1.keep k_p_2 (fun j hj => (Ne.symm (ne_oa hK rfl rfl hm_o_1 (hr_o_1 j hj))))
  have hm_o_1 : MdAt G (h) (0) (ac) (no) (kn) (mc) H_p_2 := hq_p_2
  refine lv_aload_n hx hb dX3_start_5 rfl (lv_at hl 0 rfl) ?_
  refine lv_iload_n hx hb dX3_start_6 rfl (lv_at hl 1 rfl) ?_
  refine lv_iload_n hx hb dX3_start_7 rfl (lv_at hl 2 rfl) ?_
  have hw_k_3 : MW G h (mc) (0) (ac) (no) (kn) (cc) H_p_2 := ⟨rb_o_1, hm_o_1, hq_o_1, hr_o_1, hza_o_1, hzc_o_1⟩
  refine x_c1V (as := [.int (iI (b2i (P))), .int (iI (w))]) (rest := []) S hK hm_o_1 rfl rfl (c_X3_refuse l G H_p_2 (mc) (0) (ac) (no) (kn) (cc) (h) (P) (w) (by omega) (by first | assumption | omega) (by first | assumption | omega) (by first | assumption | omega) (by assumption) (by omega) (by omega) hw_k_3) q1184 q1186 qs10 q43 q1187 hdX3_refuse ⟨by decide, by decide⟩ hl.1 rfl rfl (Nat.le_of_ble_eq_true rfl) ⟨Nat.le_of_ble_eq_true rfl, Nat.le_of_ble_eq_true rfl⟩ hS (fun q z => Or.inl z) (fun q z => Or.inr z) dX3_start_8 (fun rv_c_4 H_c_4 locs hp_c_4 k_c_4 hS => ?_)
  have kw := kw.then k_c_4 (fun q e _ => e)
  have hK := hK.keep k_c_4 (fun q e => by have e : q = h := e; omega)
  obtain ⟨th_r_5, hth_r_5, rfl, hw_r_5⟩ := hp_c_4
  refine W.eq (g2 := F0 m 11 ls [.int (iI (b2i (0 < (th_r_5))))]) rfl ?_
  refine x_ret1z (E := 0 < (th_r_5)) hx hb hr hlk hH hS (by omega) (by omega) rfl ?_ dX3_start_11
  exact ⟨th_r_5, hth_r_5.elim (fun z => Or.inl ⟨z.1.1, z.2⟩) (fun z => Or.inr ⟨fun y => z.1 ⟨y, rfl⟩, z.2⟩), rfl, hw_r_5⟩

theorem hpX3_come : plainFor yX3_come = true := by decide +kernel
theorem hdX3_come : nMH yX3_come 2 := by decide +kernel
set_option maxHeartbeats 4000000 in
theorem c_X3_come (l : Launch) (G : GG) (H0 : Heap) (mc : Nat) (th : Int) (ac : Int) (no : Int) (kn : Int) (cc : Nat → Row) (r : Row) (h : Nat) (k : Int) (q : Nat) (r_k : -2147483648 ≤ k ∧ k < 2147483648) (hac : 0 ≤ ac ∧ ac ≤ 1000) (hno : 0 ≤ no ∧ no ≤ 1000) (hkn : 0 ≤ kn ∧ kn ≤ 1000) (hok : ∀ k : Nat, k < 8 → okR (cc k)) (hk : 0 ≤ k ∧ k ≤ 7) (bb : bRow r) (hw : MW G (h) (mc) (th) (ac) (no) (kn) (cc) H0) (fq : RowAt G (q) (r) H0) : Ct1 l G yX3_come cX3_come 4 (Option.some Jvm.ClassFile.FieldType.int) 1 0 0 21 [.ref (h), .int (iI (k)), .ref (q)] H0 (fun q => q = h ∨ q = mc) (fun (rv : Option Value) (H1 : Heap) => rv = some (.int (iI (b2i (¬ alikeR (cc (k).toNat) r)))) ∧ MW G h mc th (ac + 1) no kn (va_up cc (k).toNat r) H1) := by
  refine Ct1.start hpX3_come (Nat.le_of_ble_eq_true rfl) ?_
  intro p e s m below meth c ls hx hb hr S hlk hname hH hK hS hl
  have hl : lv_has ls 4 [(0, .ref (h)), (1, .int (iI (k))), (2, .ref (q))] := hl
  have hbc : ∀ k : Nat, k < 8 → bRow (cc k) := fun k h => okR_b (hok k h)
  have kw : Keep (fun q => q = h ∨ q = mc) H0 H0 := Keep.rf
  have hz0 := hK.2.2.1
  refine lv_aload_n hx hb dX3_come_0 rfl (lv_at hl 2 rfl) ?_
  refine lv_ifnonnull (tgt := 17) hx hb dX3_come_1 (by decide) ?_
  refine lv_aload_n hx hb dX3_come_17 rfl (lv_at hl 0 rfl) ?_
  refine lv_dup hx hb dX3_come_18 rfl ?_
  have hw_o_1 := hw
  obtain ⟨rb_o_1, hm_o_1, hq_o_1, hr_o_1, hza_o_1, hzc_o_1⟩ := hw_o_1
  refine x_get S hK in_X3 hm_o_1 rfl 1 (by decide) q1149 (fun x h => h) rfl dX3_come_19 ?_
  refine xi_iconst hx hb dX3_come_22 ?_
  refine xi_iadd hx hb dX3_come_23 ?_
  refine x_put S hK in_X3 tyX3 tyX3_ok nmX3 hm_o_1 rfl 1 (by decide) q1149 (fun x h => h) rfl rfl rfl (Nat.le_of_ble_eq_true rfl) hS (Or.inl (Or.inl rfl)) dX3_come_24 (fun H_p_2 locs hq_p_2 k_p_2 hz_p_2 hS => ?_)
  have kw := kw.then k_p_2 (fun q e _ => Or.inl e)
  have hK := hK.keep k_p_2 (fun q e => by have e : q = h := e; omega)
  have fq := fq.keep k_p_2 (Ne.symm (ne_oa hK rfl rfl hm_o_1 fq))
  have hq_o_1 := hq_o_1.keep k_p_2 (Ne.symm (ne_oa hK rfl rfl hm_o_1 hq_o_1))
  have hr_o_1 := hr_o_1.keep k_p_2 (fun j hj => (Ne.symm (ne_oa hK rfl rfl hm_o_1 (hr_o_1 j hj))))
  have hm_o_1 : MdAt G (h) (th) ((ac) + (1)) (no) (kn) (mc) H_p_2 := hq_p_2
  refine lv_aload_n hx hb dX3_come_27 rfl (lv_at hl 0 rfl) ?_
  refine x_get S hK in_X3 hm_o_1 rfl 4 (by decide) q1152 (fun x h => h) rfl dX3_come_28 ?_
  refine lv_iload_n hx hb dX3_come_31 rfl (lv_at hl 1 rfl) ?_
  refine x_aald S hK 3 rfl rfl hq_o_1 (by omega) (by omega) rfl dX3_come_32 ?_
  have hr_w_3 := hr_o_1 (k).toNat (by omega)
  have hbw_w_3 := hbc (k).toNat (by omega)
  refine lv_aload_n hx hb dX3_come_33 rfl (lv_at hl 2 rfl) ?_
  refine x_c0S (as := [.ref ((rb_o_1) ((k).toNat)), .ref (q)]) (rest := []) S hK (c_X3_isAlike l G H_p_2 (cc (k).toNat) (r) ((rb_o_1) ((k).toNat)) (q) (by first | assumption | (apply hbc; omega)) (by first | assumption | (apply hbc; omega)) hr_w_3 fq) q1194 q1195 q43 q1196 hdX3_isAlike ⟨by decide, by decide⟩ hl.1 rfl rfl (Nat.le_of_ble_eq_true rfl) ⟨Nat.le_of_ble_eq_true rfl, Nat.le_of_ble_eq_true rfl⟩ dX3_come_34 ?_
  refine xi_ifb_ne (tgt := 44) hx hb dX3_come_37 (by decide) (fun c_37 => ?_) (fun c_37 => ?_)
  · skip
    refine xi_iconst hx hb dX3_come_44 ?_
    refine x_c0S (as := [.int (iI (0))]) (rest := []) S hK (c_X3_one l G H_p_2 (False)  ) q1145 q1146 q43 q1147 hdX3_one ⟨by decide, by decide⟩ hl.1 rfl rfl (Nat.le_of_ble_eq_true rfl) ⟨Nat.le_of_ble_eq_true rfl, Nat.le_of_ble_eq_true rfl⟩ dX3_come_45 ?_
    refine lv_istore_n (lv' := [(3, .int (iI (b2i (False)))), (0, .ref (h)), (1, .int (iI (k))), (2, .ref (q))]) hx hb dX3_come_48 rfl hl (by decide) rfl (fun ls hl => ?_)
    refine lv_aload_n hx hb dX3_come_49 rfl (lv_at hl 1 rfl) ?_
    refine x_get S hK in_X3 hm_o_1 rfl 4 (by decide) q1152 (fun x h => h) rfl dX3_come_50 ?_
    refine lv_iload_n hx hb dX3_come_53 rfl (lv_at hl 2 rfl) ?_
    refine lv_aload_n hx hb dX3_come_54 rfl (lv_at hl 3 rfl) ?_
    refine x_aastI S hK hq_o_1 fq (by omega) (by omega) hS (Or.inl (Or.inr rfl)) dX3_come_55 (fun H_q_4 locs hq_q_4 k_q_4 hz_q_4 hS => ?_)
    have kw := kw.then k_q_4 (fun q e _ => Or.inr e)
    have hK := hK.keep k_q_4 (fun q e => by have e : q = mc := e; omega)
    have fq := fq.keep k_q_4 (ne_len fq hq_o_1 (Nat.ne_of_beq_eq_false rfl))
    have hm_o_1 := hm_o_1.keep k_q_4 (ne_oa hK rfl rfl hm_o_1 hq_o_1)
    have hr_o_1 := hr_o_1.keep k_q_4 (fun j hj => (ne_len (hr_o_1 j hj) hq_o_1 (Nat.ne_of_beq_eq_false rfl)))
    have hr_w_3 := hr_w_3.keep k_q_4 (ne_len hr_w_3 hq_o_1 (Nat.ne_of_beq_eq_false rfl))
    obtain ⟨rb_q_4, hq_o_1, hr_o_1⟩ := rows_put hq_q_4 hr_o_1 (fq) (by omega)
    refine lv_iload_n hx hb dX3_come_56 rfl (lv_at hl 0 rfl) ?_
    refine x_ret1i hx hb hr hlk hH hS (by omega) (by omega) ?_ dX3_come_57
    exact ⟨(by rw [show b2i (¬ alikeR (cc (k).toNat) r) = b2i (False) from (b2i_0 (fun z => z (by assumption))).trans (b2i_0 id).symm]), ⟨rb_q_4, hm_o_1, hq_o_1, hr_o_1, hza_o_1, hzc_o_1⟩⟩
  · skip
    refine xi_iconst hx hb dX3_come_40 ?_
    refine lv_goto (tgt := 45) hx hb dX3_come_41 (by decide) ?_
    refine x_c0S (as := [.int (iI (1))]) (rest := []) S hK (c_X3_one l G H_p_2 (True)  ) q1145 q1146 q43 q1147 hdX3_one ⟨by decide, by decide⟩ hl.1 rfl rfl (Nat.le_of_ble_eq_true rfl) ⟨Nat.le_of_ble_eq_true rfl, Nat.le_of_ble_eq_true rfl⟩ dX3_come_45 ?_
    refine lv_istore_n (lv' := [(3, .int (iI (b2i (True)))), (0, .ref (h)), (1, .int (iI (k))), (2, .ref (q))]) hx hb dX3_come_48 rfl hl (by decide) rfl (fun ls hl => ?_)
    refine lv_aload_n hx hb dX3_come_49 rfl (lv_at hl 1 rfl) ?_
    refine x_get S hK in_X3 hm_o_1 rfl 4 (by decide) q1152 (fun x h => h) rfl dX3_come_50 ?_
    refine lv_iload_n hx hb dX3_come_53 rfl (lv_at hl 2 rfl) ?_
    refine lv_aload_n hx hb dX3_come_54 rfl (lv_at hl 3 rfl) ?_
    refine x_aastI S hK hq_o_1 fq (by omega) (by omega) hS (Or.inl (Or.inr rfl)) dX3_come_55 (fun H_q_5 locs hq_q_5 k_q_5 hz_q_5 hS => ?_)
    have kw := kw.then k_q_5 (fun q e _ => Or.inr e)
    have hK := hK.keep k_q_5 (fun q e => by have e : q = mc := e; omega)
    have fq := fq.keep k_q_5 (ne_len fq hq_o_1 (Nat.ne_of_beq_eq_false rfl))
    have hm_o_1 := hm_o_1.keep k_q_5 (ne_oa hK rfl rfl hm_o_1 hq_o_1)
    have hr_o_1 := hr_o_1.keep k_q_5 (fun j hj => (ne_len (hr_o_1 j hj) hq_o_1 (Nat.ne_of_beq_eq_false rfl)))
    have hr_w_3 := hr_w_3.keep k_q_5 (ne_len hr_w_3 hq_o_1 (Nat.ne_of_beq_eq_false rfl))
    obtain ⟨rb_q_5, hq_o_1, hr_o_1⟩ := rows_put hq_q_5 hr_o_1 (fq) (by omega)
    refine lv_iload_n hx hb dX3_come_56 rfl (lv_at hl 0 rfl) ?_
    refine x_ret1i hx hb hr hlk hH hS (by omega) (by omega) ?_ dX3_come_57
    exact ⟨(by rw [show b2i (¬ alikeR (cc (k).toNat) r) = b2i (True) from (b2i_1 (by assumption)).trans (b2i_1 trivial).symm]), ⟨rb_q_5, hm_o_1, hq_o_1, hr_o_1, hza_o_1, hzc_o_1⟩⟩

set_option maxHeartbeats 4000000 in
theorem c_X3_comeN (l : Launch) (G : GG) (H0 : Heap) (mc : Nat) (th : Int) (ac : Int) (no : Int) (kn : Int) (cc : Nat → Row) (h : Nat) (k : Int) (r_k : -2147483648 ≤ k ∧ k < 2147483648) (hac : 0 ≤ ac ∧ ac ≤ 1000) (hno : 0 ≤ no ∧ no ≤ 1000) (hkn : 0 ≤ kn ∧ kn ≤ 1000) (hok : ∀ k : Nat, k < 8 → okR (cc k)) (hw : MW G (h) (mc) (th) (ac) (no) (kn) (cc) H0) : Ct1 l G yX3_come cX3_come 4 (Option.some Jvm.ClassFile.FieldType.int) 0 0 0 0 [.ref (h), .int (iI (k)), .null] H0 (fun q => q = h ∨ q = mc) (fun (rv : Option Value) (H1 : Heap) => rv = some (.int (iI (-9))) ∧ MW G h mc th ac (no + 1) kn cc H1) := by
  refine Ct1.start hpX3_come (Nat.le_of_ble_eq_true rfl) ?_
  intro p e s m below meth c ls hx hb hr S hlk hname hH hK hS hl
  have hl : lv_has ls 4 [(0, .ref (h)), (1, .int (iI (k))), (2, .null)] := hl
  have hbc : ∀ k : Nat, k < 8 → bRow (cc k) := fun k h => okR_b (hok k h)
  have kw : Keep (fun q => q = h ∨ q = mc) H0 H0 := Keep.rf
  have hz0 := hK.2.2.1
  refine lv_aload_nN hx hb dX3_come_0 rfl (lv_at hl 2 rfl) ?_
  refine lv_ifnonnullN hx hb dX3_come_1 ?_
  refine lv_aload_n hx hb dX3_come_4 rfl (lv_at hl 0 rfl) ?_
  refine lv_dup hx hb dX3_come_5 rfl ?_
  have hw_o_1 := hw
  obtain ⟨rb_o_1, hm_o_1, hq_o_1, hr_o_1, hza_o_1, hzc_o_1⟩ := hw_o_1
  refine x_get S hK in_X3 hm_o_1 rfl 2 (by decide) q1150 (fun x h => h) rfl dX3_come_6 ?_
  refine xi_iconst hx hb dX3_come_9 ?_
  refine xi_iadd hx hb dX3_come_10 ?_
  refine x_put S hK in_X3 tyX3 tyX3_ok nmX3 hm_o_1 rfl 2 (by decide) q1150 (fun x h => h) rfl rfl rfl (Nat.le_of_ble_eq_true rfl) hS (Or.inl (Or.inl rfl)) dX3_come_11 (fun H_p_2 locs hq_p_2 k_p_2 hz_p_2 hS => ?_)
  have kw := kw.then k_p_2 (fun q e _ => Or.inl e)
  have hK := hK.keep k_p_2 (fun q e => by have e : q = h := e; omega)
  have hq_o_1 := hq_o_1.keep k_p_2 (Ne.symm (ne_oa hK rfl rfl hm_o_1 hq_o_1))
  have hr_o_1 := hr_o_1.keep k_p_2 (fun j hj => (Ne.symm (ne_oa hK rfl rfl hm_o_1 (hr_o_1 j hj))))
  have hm_o_1 : MdAt G (h) (th) (ac) ((no) + (1)) (kn) (mc) H_p_2 := hq_p_2
  refine xi_bipush hx hb (by decide) dX3_come_14 ?_
  refine x_ret1i hx hb hr hlk hH hS (by omega) (by omega) ?_ dX3_come_16
  exact ⟨rfl, ⟨rb_o_1, hm_o_1, hq_o_1, hr_o_1, hza_o_1, hzc_o_1⟩⟩

theorem hpX3_knock : plainFor yX3_knock = true := by decide +kernel
theorem hdX3_knock : nMH yX3_knock 0 := by decide +kernel
set_option maxHeartbeats 4000000 in
theorem c_X3_knock (l : Launch) (G : GG) (H0 : Heap) (mc : Nat) (th : Int) (ac : Int) (no : Int) (kn : Int) (cc : Nat → Row) (h : Nat) (hac : 0 ≤ ac ∧ ac ≤ 1000) (hno : 0 ≤ no ∧ no ≤ 1000) (hkn : 0 ≤ kn ∧ kn ≤ 1000) (hok : ∀ k : Nat, k < 8 → okR (cc k)) (hw : MW G (h) (mc) (th) (ac) (no) (kn) (cc) H0) : Ct1 l G yX3_knock cX3_knock 1 (Option.some Jvm.ClassFile.FieldType.int) 0 0 0 0 [.ref (h)] H0 (fun q => q = h) (fun (rv : Option Value) (H1 : Heap) => rv = some (.int (iI (kn + 1))) ∧ MW G h mc 0 ac no (kn + 1) cc H1) := by
  refine Ct1.start hpX3_knock (Nat.le_of_ble_eq_true rfl) ?_
  intro p e s m below meth c ls hx hb hr S hlk hname hH hK hS hl
  have hl : lv_has ls 1 [(0, .ref (h))] := hl
  have hbc : ∀ k : Nat, k < 8 → bRow (cc k) := fun k h => okR_b (hok k h)
  have kw : Keep (fun q => q = h) H0 H0 := Keep.rf
  have hz0 := hK.2.2.1
  refine lv_aload_n hx hb dX3_knock_0 rfl (lv_at hl 0 rfl) ?_
  refine xi_iconst hx hb dX3_knock_1 ?_
  have hw_o_1 := hw
  obtain ⟨rb_o_1, hm_o_1, hq_o_1, hr_o_1, hza_o_1, hzc_o_1⟩ := hw_o_1
  refine x_put S hK in_X3 tyX3 tyX3_ok nmX3 hm_o_1 rfl 0 (by decide) q1148 (fun x h => h) rfl rfl rfl (Nat.le_of_ble_eq_true rfl) hS (Or.inl rfl) dX3_knock_2 (fun H_p_2 locs hq_p_2 k_p_2 hz_p_2 hS => ?_)
  have kw := kw.then k_p_2 (fun q e _ => e)
  have hK := hK.keep k_p_2 (fun q e => by have e : q = h := e; omega)
  have hq_o_1 := hq_o_1.keep k_p_2 (Ne.symm (ne_oa hK rfl rfl hm_o_1 hq_o_1))
  have hr_o_1 := hr_o_1.keep k_p_2 (fun j hj => (Ne.symm (ne_oa hK rfl rfl hm_o_1 (hr_o_1 j hj))))
  have hm_o_1 : MdAt G (h) (0) (ac) (no) (kn) (mc) H_p_2 := hq_p_2
  refine lv_aload_n hx hb dX3_knock_5 rfl (lv_at hl 0 rfl) ?_
  refine lv_dup hx hb dX3_knock_6 rfl ?_
  refine x_get S hK in_X3 hm_o_1 rfl 3 (by decide) q1151 (fun x h => h) rfl dX3_knock_7 ?_
  refine xi_iconst hx hb dX3_knock_10 ?_
  refine xi_iadd hx hb dX3_knock_11 ?_
  refine x_put S hK in_X3 tyX3 tyX3_ok nmX3 hm_o_1 rfl 3 (by decide) q1151 (fun x h => h) rfl rfl rfl (Nat.le_of_ble_eq_true rfl) hS (Or.inl rfl) dX3_knock_12 (fun H_p_3 locs hq_p_3 k_p_3 hz_p_3 hS => ?_)
  have kw := kw.then k_p_3 (fun q e _ => e)
  have hK := hK.keep k_p_3 (fun q e => by have e : q = h := e; omega)
  have hq_o_1 := hq_o_1.keep k_p_3 (Ne.symm (ne_oa hK rfl rfl hm_o_1 hq_o_1))
  have hr_o_1 := hr_o_1.keep k_p_3 (fun j hj => (Ne.symm (ne_oa hK rfl rfl hm_o_1 (hr_o_1 j hj))))
  have hm_o_1 : MdAt G (h) (0) (ac) (no) ((kn) + (1)) (mc) H_p_3 := hq_p_3
  refine lv_aload_n hx hb dX3_knock_15 rfl (lv_at hl 0 rfl) ?_
  refine x_get S hK in_X3 hm_o_1 rfl 3 (by decide) q1151 (fun x h => h) rfl dX3_knock_16 ?_
  refine x_ret1i hx hb hr hlk hH hS (by omega) (by omega) ?_ dX3_knock_19
  exact ⟨rfl, ⟨rb_o_1, hm_o_1, hq_o_1, hr_o_1, hza_o_1, hzc_o_1⟩⟩

