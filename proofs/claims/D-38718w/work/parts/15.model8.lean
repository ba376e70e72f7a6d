set_option maxRecDepth 100000
theorem hpX3_row : plainFor yX3_row = true := by decide +kernel
theorem hdX3_row : nMH yX3_row 2 := by decide +kernel
set_option maxHeartbeats 4000000 in
theorem c_X3_row (l : Launch) (G : GG) (H0 : Heap) (mc : Nat) (th : Int) (ac : Int) (no : Int) (kn : Int) (cc : Nat → Row) (h : Nat) (t : Int) (v : Int) (r_t : -2147483648 ≤ t ∧ t < 2147483648) (r_v : -2147483648 ≤ v ∧ v < 2147483648) (hac : 0 ≤ ac ∧ ac ≤ 1000) (hno : 0 ≤ no ∧ no ≤ 1000) (hkn : 0 ≤ kn ∧ kn ≤ 1000) (hok : ∀ k : Nat, k < 8 → okR (cc k)) (hw : MW G (h) (mc) (th) (ac) (no) (kn) (cc) H0) : Ct1 l G yX3_row cX3_row 5 (Option.some Jvm.ClassFile.FieldType.int) 3 9 32 61 [.ref (h), .int (iI (t)), .int (iI (v))] H0 (fun q => q = h ∨ q = mc) (fun (rv : Option Value) (H1 : Heap) => ∃ z : Res, op_row ac no cc (t) (v) = z ∧ rv = some (.int (iI z.2.1)) ∧ MW G h mc z.1 z.2.2.1 z.2.2.2.1 kn z.2.2.2.2 H1) := by
  refine Ct1.start hpX3_row (Nat.le_of_ble_eq_true rfl) ?_
  intro p e s m below meth c ls hx hb hr S hlk hname hH hK hS hl
  have hl : lv_has ls 5 [(0, .ref (h)), (1, .int (iI (t))), (2, .int (iI (v)))] := hl
  have hbc : ∀ k : Nat, k < 8 → bRow (cc k) := fun k h => okR_b (hok k h)
  have hml_ := MW.mlt hw
  have kw : Keep (fun q => q = h ∨ q = mc) H0 H0 := Keep.rf
  have hz0 := hK.2.2.1
  refine lv_aload_n hx hb dX3_row_0 rfl (lv_at hl 0 rfl) ?_
  refine lv_iload_n hx hb dX3_row_1 rfl (lv_at hl 1 rfl) ?_
  refine xi_i2l hx hb (by omega) dX3_row_2 ?_
  refine xi_ldc2 (z := -65535) hx hb S.2.2.2.1 S.2.2.2.2 q1188 (by decide +kernel) dX3_row_3 ?_
  refine xi_ldc2 (z := 65535) hx hb S.2.2.2.1 S.2.2.2.2 q1189 (by decide +kernel) dX3_row_6 ?_
  refine x_c0S (as := [.long (jI (t)), .long (jI (-65535)), .long (jI (65535))]) (rest := [.ref (h)]) S hK (c_X3_isIn l G H0 (t) (-65535) (65535) (by omega) (by omega) (by omega) ) q1177 q1178 q43 q1179 hdX3_isIn ⟨by decide, by decide⟩ hl.1 rfl rfl (Nat.le_of_ble_eq_true rfl) ⟨Nat.le_of_ble_eq_true rfl, Nat.le_of_ble_eq_true rfl⟩ dX3_row_9 ?_
  refine xi_ifb_eq (tgt := 29) hx hb dX3_row_12 (by decide) (fun c_12 => ?_) (fun c_12 => ?_)
  · skip
    refine xi_iconst hx hb dX3_row_29 ?_
    refine lv_goto (tgt := 34) hx hb dX3_row_30 (by decide) ?_
    refine xi_iconst hx hb dX3_row_34 ?_
    have hw_o_1 := hw
    obtain ⟨rb_o_1, hm_o_1, hq_o_1, hr_o_1, hza_o_1, hzc_o_1⟩ := hw_o_1
    refine x_c1V (as := [.int (iI (1)), .int (iI (1))]) (rest := []) S hK hm_o_1 rfl rfl (c_X3_start l G H0 (mc) (th) (ac) (no) (kn) (cc) (h) (True) (1) (by omega) (by first | assumption | omega) (by first | assumption | omega) (by first | assumption | omega) (by assumption) (by omega) hw) q1180 q1182 qs9 q43 q1183 hdX3_start ⟨by decide, by decide⟩ hl.1 rfl rfl (Nat.le_of_ble_eq_true rfl) ⟨Nat.le_of_ble_eq_true rfl, Nat.le_of_ble_eq_true rfl⟩ hS (fun q e => Or.inl (Or.inl e)) (fun q z => Or.inr z) dX3_row_35 (fun rv_c_2 H_c_2 locs hp_c_2 k_c_2 hS => ?_)
    have kw := kw.then k_c_2 (fun q e _ => Or.inl e)
    have hK := hK.keep k_c_2 (fun q e => by have e : q = h := e; omega)
    obtain ⟨th_r_3, hth_r_3, rfl, hw_r_3⟩ := hp_c_2
    have hth_r_3 := hth_r_3.elim (fun z => z.2) (fun z => absurd trivial z.1)
    refine W.eq (g2 := F0 m 38 ls [.int (iI (b2i (0 < (th_r_3))))]) rfl ?_
    refine xi_ifb_eq (tgt := 43) hx hb dX3_row_38 (by decide) (fun c_38 => ?_) (fun c_38 => ?_)
    · skip
      obtain rfl : th_r_3 = 0 := by omega
      refine lv_iload_n hx hb dX3_row_43 rfl (lv_at hl 1 rfl) ?_
      refine xi_bipush hx hb (by decide) dX3_row_44 ?_
      refine lv_iload_n hx hb dX3_row_46 rfl (lv_at hl 2 rfl) ?_
      refine xi_imul hx hb dX3_row_47 ?_
      refine xi_iadd hx hb dX3_row_48 ?_
      refine xi_i2l hx hb (by omega) dX3_row_49 ?_
      refine xi_ldc2 (z := -65535) hx hb S.2.2.2.1 S.2.2.2.2 q1188 (by decide +kernel) dX3_row_50 ?_
      refine xi_ldc2 (z := 65535) hx hb S.2.2.2.1 S.2.2.2.2 q1189 (by decide +kernel) dX3_row_53 ?_
      refine x_c0S (as := [.long (jI ((t) + ((7) * (v)))), .long (jI (-65535)), .long (jI (65535))]) (rest := []) S hK (c_X3_isIn l G H_c_2 ((t) + ((7) * (v))) (-65535) (65535) (by omega) (by omega) (by omega) ) q1177 q1178 q43 q1179 hdX3_isIn ⟨by decide, by decide⟩ hl.1 rfl rfl (Nat.le_of_ble_eq_true rfl) ⟨Nat.le_of_ble_eq_true rfl, Nat.le_of_ble_eq_true rfl⟩ dX3_row_56 ?_
      refine xi_ifb_ne (tgt := 69) hx hb dX3_row_59 (by decide) (fun c_59 => ?_) (fun c_59 => ?_)
      · skip
        refine xi_bipush hx hb (by decide) dX3_row_69 ?_
        refine x_anewI S hK q1137 (by omega) ⟨Nat.le_of_ble_eq_true rfl, Nat.le_of_ble_eq_true rfl⟩ hS dX3_row_71 (fun a_n_4 H_n_4 ha_n_4 hq_n_4 k_n_4 hS => ?_)
        have hge_n_4 : H0.size ≤ a_n_4 := by rw [ha_n_4]; exact kw.1
        have sn_n_4_hw_r_3 := hw_r_3
        have kb_n_4 : Keep noW H_c_2 H_c_2 := Keep.rf
        have kw := kw.then k_n_4 (fun q z _ => z.elim)
        have hK := hK.ext k_n_4
        have kb_n_4 := kb_n_4.trans k_n_4
        have hw_r_3 := hw_r_3.ext k_n_4
        have hq_n_4 : TArr G a_n_4 (fun _ => False) (fun i => mk 0 (t + (i : Int) * v)) H_n_4 := TArr.new hq_n_4
        refine lv_astore_n (lv' := [(3, .ref (a_n_4)), (0, .ref (h)), (1, .int (iI (t))), (2, .int (iI (v)))]) hx hb dX3_row_74 rfl hl (by decide) rfl (fun ls hl => ?_)
        refine xi_iconst hx hb dX3_row_75 ?_
        refine lv_istore (lv' := [(4, .int (iI (0))), (3, .ref (a_n_4)), (0, .ref (h)), (1, .int (iI (t))), (2, .int (iI (v)))]) hx hb dX3_row_76 hl (by decide) rfl (fun ls hl => ?_)
        have L_78 : ∀ (n_ : Nat) (qq : Nat) (j : Int) (hj : 0 ≤ j ∧ j ≤ 8) (hq2 : H0.size ≤ qq) (hg : (-65535 ≤ t ∧ t ≤ 65535) ∧ (-8192 ≤ v ∧ v ≤ 8192) ∧ (-65535 ≤ t + 7 * v ∧ t + 7 * v ≤ 65535)) (H_L78 : Heap) (locs : List Loc) (cells_78 slots_78 : Nat) (hcs_78 : cells_78 = (1) + j.toNat ∧ slots_78 = (8) + 3 * j.toNat) (kw : Keep (fun q => q = h ∨ q = mc) H0 H_L78) (hK : KH G s H_L78) (hS : va_S (xA (fun q => q = h ∨ q = mc) H0) H0 H_L78 locs) (hwl : MW G (h) (mc) (0) (ac) (no) (kn) (cc) H_L78) (hta : TArr G (qq) (fun k => k < j.toNat) (fun i => mk 0 (t + (i : Int) * v)) H_L78) (hm_ : ((8 : Int) - j).toNat < n_) (ls : Array Slot) (hl : lv_has ls 5 [(4, .int (iI (j))), (3, .ref (qq)), (0, .ref (h)), (1, .int (iI (t))), (2, .int (iI (v)))]), W p l e { frames := 3, cells := 9, slots := 32, locals := 61 } s m ([.ref (h), .int (iI (t)), .int (iI (v))] : List Value).toArray below meth c H_L78 locs cells_78 slots_78 (MQ below (xQ (fun (rv : Option Value) (H1 : Heap) => ∃ z : Res, op_row ac no cc (t) (v) = z ∧ rv = some (.int (iI z.2.1)) ∧ MW G h mc z.1 z.2.2.1 z.2.2.2.1 kn z.2.2.2.2 H1) (xA (fun q => q = h ∨ q = mc) H0)) ([.ref (h), .int (iI (t)), .int (iI (v))] : List Value).toArray s 9 32 (xA (fun q => q = h ∨ q = mc) H0)) (F0 m 78 ls []) := by
          intro n_
          induction n_ with
          | zero =>
            intro qq j hj hq2 hg H_L78 locs cells_78 slots_78 hcs_78 kw hK hS hwl hta hm_ ls hl
            exact absurd hm_ (Nat.not_lt_zero _)
          | succ n_ ih_78 =>
            intro qq j hj hq2 hg H_L78 locs cells_78 slots_78 hcs_78 kw hK hS hwl hta hm_ ls hl
            refine lv_iload hx hb dX3_row_78 (lv_at hl 0 rfl) ?_
            refine xi_bipush hx hb (by decide) dX3_row_80 ?_
            refine xi_icmp_ge (tgt := 104) hx hb dX3_row_82 (by decide) (by omega) (by omega) (fun c_82 => ?_) (fun c_82 => ?_)
            · skip
              refine lv_aload_n hx hb dX3_row_104 rfl (lv_at hl 2 rfl) ?_
              refine lv_aload_n hx hb dX3_row_105 rfl (lv_at hl 1 rfl) ?_
              obtain ⟨rd_, hqa_, hra_⟩ := TArr.full hta (fun k hk => by show k < j.toNat; omega)
              have hod_ : ∀ k : Nat, k < 8 → okR ((fun i => mk 0 (t + (i : Int) * v)) k) := by intro k hk; have h8_ : k = 0 ∨ k = 1 ∨ k = 2 ∨ k = 3 ∨ k = 4 ∨ k = 5 ∨ k = 6 ∨ k = 7 := (by omega); rcases h8_ with rfl | rfl | rfl | rfl | rfl | rfl | rfl | rfl <;> exact okR_mk0 (Or.inl (by omega))
              have hw_o_5 := hwl
              obtain ⟨rb_o_5, hm_o_5, hq_o_5, hr_o_5, hza_o_5, hzc_o_5⟩ := hw_o_5
              refine x_c1V (as := [.ref (qq)]) (rest := []) S hK hm_o_5 rfl rfl (c_X3_comeAll l G H_L78 (mc) (0) (ac) (no) (kn) (cc) (rd_) (fun i => mk 0 (t + (i : Int) * v)) (h) (qq) (by first | assumption | omega) (by first | assumption | omega) (by first | assumption | omega) (by assumption) (by omega) (by exact hod_) hwl hqa_ hra_) q1215 q1217 qs12 q43 q1218 hdX3_comeAll ⟨by decide, by decide⟩ hl.1 rfl rfl (Nat.le_of_ble_eq_true rfl) ⟨(by show _ ≤ (9 : Nat); omega), (by show _ ≤ (32 : Nat); omega)⟩ hS (fun q z => Or.inl z) (fun q z => Or.inr z) dX3_row_106 (fun rv_c_6 H_c_6 locs hp_c_6 k_c_6 hS => ?_)
              have kw := kw.then k_c_6 (fun q e _ => e)
              have hK := hK.keep k_c_6 (fun q e => by have e : q = h ∨ q = mc := e; omega)
              obtain ⟨rfl, hw_r_7⟩ := hp_c_6
              refine W.eq (g2 := F0 m 109 ls [.int (iI (cntZ (fun i => b2i (¬ alikeR ((cc) i) ((fun i => mk 0 (t + (i : Int) * v)) i))) 8))]) rfl ?_
              refine x_ret1i hx hb hr hlk hH hS (by omega) (by omega) ?_ dX3_row_109
              first | (exfalso; omega) | exact ⟨(_, _, _, _, _), (by unfold op_row; (repeat (first | with_reducible refine ifp (by omega) ?_ | with_reducible refine ifn (by omega) ?_)); first | rfl | exact comeF_s (by assumption) | exact comeF_n (by assumption) | exact comeF_s (if_pos (by omega)) | exact comeF_n (if_neg (by omega))), rfl, hw_r_7⟩
            · skip
              refine lv_aload_n hx hb dX3_row_85 rfl (lv_at hl 1 rfl) ?_
              refine lv_iload hx hb dX3_row_86 (lv_at hl 0 rfl) ?_
              refine lv_iload_n hx hb dX3_row_88 rfl (lv_at hl 3 rfl) ?_
              refine lv_iload hx hb dX3_row_89 (lv_at hl 0 rfl) ?_
              refine lv_iload_n hx hb dX3_row_91 rfl (lv_at hl 4 rfl) ?_
              refine xi_imul hx hb dX3_row_92 ?_
              refine xi_name (fun pp e_pp => ?_)
              have pp_ := mulB (a := j) (b := v) (A := 7) (B := 8192) (by omega) (by omega)
              refine xi_iadd hx hb dX3_row_93 ?_
              refine x_c1S (as := [.int (iI ((t) + (pp)))]) (rest := [.int (iI (j)), .ref (qq)]) S hK (c_X3_exact l G H_L78 ((t) + (pp)) (by omega) ) q1139 q1140 q43 q1141 hdX3_exact ⟨by decide, by decide⟩ hl.1 rfl rfl (Nat.le_of_ble_eq_true rfl) ⟨(by show _ ≤ (9 : Nat); omega), (by show _ ≤ (32 : Nat); omega)⟩ hS (fun _ z => z.elim) (fun q z => Or.inr z) dX3_row_94 (fun rv_c_8 H_c_8 locs hp_c_8 k_c_8 hS => ?_)
              have kw := kw.then k_c_8 (fun q z _ => z.elim)
              have hK := hK.ext k_c_8
              have hwl := hwl.ext k_c_8
              have hta := hta.ext k_c_8
              obtain ⟨a_r_9, rfl, hq_r_9⟩ := hp_c_8
              refine W.eq (g2 := F0 m 97 ls [.ref (a_r_9), .int (iI (j)), .ref (qq)]) rfl ?_
              obtain ⟨f_t_10, hf_t_10, hp_t_10⟩ := hta
              have hv_t_10 : RowAt G (a_r_9) ((fun i => mk 0 (t + (i : Int) * v)) (j).toNat) H_c_8 := by show RowAt G _ (mk 0 (t + ((j.toNat : Nat) : Int) * v)) _; rw [toNat_cast hj.1, ← e_pp]; exact hq_r_9
              refine x_aastI S hK hf_t_10 hq_r_9 (by omega) (by omega) hS (Or.inr (by omega)) dX3_row_97 (fun H_t_10 locs hq_t_10 k_t_10 hz_t_10 hS => ?_)
              have hn_t_10 := TArr.put hf_t_10 hp_t_10 k_t_10 hq_t_10 hv_t_10
              have kw := kw.then k_t_10 (fun q e hlt => by have e : q = qq := e; exact absurd hlt (by omega))
              have hK := hK.keep k_t_10 (fun q e => by have e : q = qq := e; omega)
              have hwl := hwl.keepT hK k_t_10 hf_t_10 rfl (by omega)
              have hq_r_9 := hq_r_9.keep k_t_10 (ne_len hq_r_9 hf_t_10 (Nat.ne_of_beq_eq_false rfl))
              refine xi_iinc (lv' := [(4, .int (iI (j + 1))), (3, .ref (qq)), (0, .ref (h)), (1, .int (iI (t))), (2, .int (iI (v)))]) hx hb dX3_row_98 hl (k := 0) rfl (by decide) rfl (fun ls hl => ?_)
              refine lv_goto (tgt := 78) hx hb dX3_row_101 (by decide) ?_
              exact ih_78 (qq) (j + 1) (by omega) (by omega) (by omega) H_t_10 locs ((cells_78 + 1)) ((slots_78 + 3)) (by constructor <;> omega) kw hK hS hwl (TArr.c (fun k _ (z : k < (j + 1).toNat) => by show k < j.toNat ∨ k = j.toNat; omega) hn_t_10) (by omega) ls (lv_sub hl [0, 1, 2, 3, 4] rfl)
        exact L_78 ((((8 : Int) - (0)).toNat) + 1) (a_n_4) (0) (by omega) (by omega) (by omega) H_n_4 locs 1 8 (by constructor <;> omega) kw hK hS hw_r_3 (TArr.c (fun k _ (z : k < (0 : Int).toNat) => absurd z (by omega)) hq_n_4) (by omega) ls (lv_sub hl [0, 1, 2, 3, 4] rfl)
      · skip
        refine lv_aload_n hx hb dX3_row_62 rfl (lv_at hl 0 rfl) ?_
        refine xi_iconst hx hb dX3_row_63 ?_
        refine lv_null hx hb dX3_row_64 ?_
        have hw_o_11 := hw_r_3
        obtain ⟨rb_o_11, hm_o_11, hq_o_11, hr_o_11, hza_o_11, hzc_o_11⟩ := hw_o_11
        refine x_c1V (as := [.int (iI (0)), .null]) (rest := []) S hK hm_o_11 rfl rfl (c_X3_comeN l G H_c_2 (mc) (0) (ac) (no) (kn) (cc) (h) (0) (by omega) (by first | assumption | omega) (by first | assumption | omega) (by first | assumption | omega) (by assumption) hw_r_3) q1190 q1192 qs11 q43 q1193 hdX3_come ⟨by decide, by decide⟩ hl.1 rfl rfl (Nat.le_of_ble_eq_true rfl) ⟨Nat.le_of_ble_eq_true rfl, Nat.le_of_ble_eq_true rfl⟩ hS (fun q z => Or.inl z) (fun q z => Or.inr z) dX3_row_65 (fun rv_c_12 H_c_12 locs hp_c_12 k_c_12 hS => ?_)
        have kw := kw.then k_c_12 (fun q e _ => e)
        have hK := hK.keep k_c_12 (fun q e => by have e : q = h ∨ q = mc := e; omega)
        obtain ⟨rfl, hw_r_13⟩ := hp_c_12
        refine W.eq (g2 := F0 m 68 ls [.int (iI (-9))]) rfl ?_
        refine x_ret1i hx hb hr hlk hH hS (by omega) (by omega) ?_ dX3_row_68
        first | (exfalso; omega) | exact ⟨(_, _, _, _, _), (by unfold op_row; (repeat (first | with_reducible refine ifp (by omega) ?_ | with_reducible refine ifn (by omega) ?_)); first | rfl | exact comeF_s (by assumption) | exact comeF_n (by assumption) | exact comeF_s (if_pos (by omega)) | exact comeF_n (if_neg (by omega))), rfl, hw_r_13⟩
    · skip
      obtain rfl : th_r_3 = 1 := by omega
      refine xi_iconst hx hb dX3_row_41 ?_
      refine x_ret1i hx hb hr hlk hH hS (by omega) (by omega) ?_ dX3_row_42
      first | (exfalso; omega) | exact ⟨(_, _, _, _, _), (by unfold op_row; (repeat (first | with_reducible refine ifp (by omega) ?_ | with_reducible refine ifn (by omega) ?_)); first | rfl | exact comeF_s (by assumption) | exact comeF_n (by assumption) | exact comeF_s (if_pos (by omega)) | exact comeF_n (if_neg (by omega))), rfl, hw_r_3⟩
  · skip
    refine lv_iload_n hx hb dX3_row_15 rfl (lv_at hl 2 rfl) ?_
    refine xi_i2l hx hb (by omega) dX3_row_16 ?_
    refine xi_ldc2 (z := -8192) hx hb S.2.2.2.1 S.2.2.2.2 q1213 (by decide +kernel) dX3_row_17 ?_
    refine xi_ldc2 (z := 8192) hx hb S.2.2.2.1 S.2.2.2.2 q1214 (by decide +kernel) dX3_row_20 ?_
    refine x_c0S (as := [.long (jI (v)), .long (jI (-8192)), .long (jI (8192))]) (rest := [.ref (h)]) S hK (c_X3_isIn l G H0 (v) (-8192) (8192) (by omega) (by omega) (by omega) ) q1177 q1178 q43 q1179 hdX3_isIn ⟨by decide, by decide⟩ hl.1 rfl rfl (Nat.le_of_ble_eq_true rfl) ⟨Nat.le_of_ble_eq_true rfl, Nat.le_of_ble_eq_true rfl⟩ dX3_row_23 ?_
    refine xi_ifb_ne (tgt := 33) hx hb dX3_row_26 (by decide) (fun c_26 => ?_) (fun c_26 => ?_)
    · skip
      refine xi_iconst hx hb dX3_row_33 ?_
      refine xi_iconst hx hb dX3_row_34 ?_
      have hw_o_14 := hw
      obtain ⟨rb_o_14, hm_o_14, hq_o_14, hr_o_14, hza_o_14, hzc_o_14⟩ := hw_o_14
      refine x_c1V (as := [.int (iI (0)), .int (iI (1))]) (rest := []) S hK hm_o_14 rfl rfl (c_X3_start l G H0 (mc) (th) (ac) (no) (kn) (cc) (h) (False) (1) (by omega) (by first | assumption | omega) (by first | assumption | omega) (by first | assumption | omega) (by assumption) (by omega) hw) q1180 q1182 qs9 q43 q1183 hdX3_start ⟨by decide, by decide⟩ hl.1 rfl rfl (Nat.le_of_ble_eq_true rfl) ⟨Nat.le_of_ble_eq_true rfl, Nat.le_of_ble_eq_true rfl⟩ hS (fun q e => Or.inl (Or.inl e)) (fun q z => Or.inr z) dX3_row_35 (fun rv_c_15 H_c_15 locs hp_c_15 k_c_15 hS => ?_)
      have kw := kw.then k_c_15 (fun q e _ => Or.inl e)
      have hK := hK.keep k_c_15 (fun q e => by have e : q = h := e; omega)
      obtain ⟨th_r_16, hth_r_16, rfl, hw_r_16⟩ := hp_c_15
      have hth_r_16 := hth_r_16.elim (fun z => z.1.elim) (fun z => z.2)
      refine W.eq (g2 := F0 m 38 ls [.int (iI (b2i (0 < (th_r_16))))]) rfl ?_
      refine xi_ifb_eq (tgt := 43) hx hb dX3_row_38 (by decide) (fun c_38 => ?_) (fun c_38 => ?_)
      · skip
        obtain rfl : th_r_16 = 0 := by omega
        refine lv_iload_n hx hb dX3_row_43 rfl (lv_at hl 1 rfl) ?_
        refine xi_bipush hx hb (by decide) dX3_row_44 ?_
        refine lv_iload_n hx hb dX3_row_46 rfl (lv_at hl 2 rfl) ?_
        refine xi_imul hx hb dX3_row_47 ?_
        refine xi_iadd hx hb dX3_row_48 ?_
        refine xi_i2l hx hb (by omega) dX3_row_49 ?_
        refine xi_ldc2 (z := -65535) hx hb S.2.2.2.1 S.2.2.2.2 q1188 (by decide +kernel) dX3_row_50 ?_
        refine xi_ldc2 (z := 65535) hx hb S.2.2.2.1 S.2.2.2.2 q1189 (by decide +kernel) dX3_row_53 ?_
        refine x_c0S (as := [.long (jI ((t) + ((7) * (v)))), .long (jI (-65535)), .long (jI (65535))]) (rest := []) S hK (c_X3_isIn l G H_c_15 ((t) + ((7) * (v))) (-65535) (65535) (by omega) (by omega) (by omega) ) q1177 q1178 q43 q1179 hdX3_isIn ⟨by decide, by decide⟩ hl.1 rfl rfl (Nat.le_of_ble_eq_true rfl) ⟨Nat.le_of_ble_eq_true rfl, Nat.le_of_ble_eq_true rfl⟩ dX3_row_56 ?_
        refine xi_ifb_ne (tgt := 69) hx hb dX3_row_59 (by decide) (fun c_59 => ?_) (fun c_59 => ?_)
        · skip
          refine xi_bipush hx hb (by decide) dX3_row_69 ?_
          refine x_anewI S hK q1137 (by omega) ⟨Nat.le_of_ble_eq_true rfl, Nat.le_of_ble_eq_true rfl⟩ hS dX3_row_71 (fun a_n_17 H_n_17 ha_n_17 hq_n_17 k_n_17 hS => ?_)
          have hge_n_17 : H0.size ≤ a_n_17 := by rw [ha_n_17]; exact kw.1
          have sn_n_17_hw_r_16 := hw_r_16
          have kb_n_17 : Keep noW H_c_15 H_c_15 := Keep.rf
          have kw := kw.then k_n_17 (fun q z _ => z.elim)
          have hK := hK.ext k_n_17
          have kb_n_17 := kb_n_17.trans k_n_17
          have hw_r_16 := hw_r_16.ext k_n_17
          have hq_n_17 : TArr G a_n_17 (fun _ => False) (fun i => mk 0 (t + (i : Int) * v)) H_n_17 := TArr.new hq_n_17
          refine lv_astore_n (lv' := [(3, .ref (a_n_17)), (0, .ref (h)), (1, .int (iI (t))), (2, .int (iI (v)))]) hx hb dX3_row_74 rfl hl (by decide) rfl (fun ls hl => ?_)
          refine xi_iconst hx hb dX3_row_75 ?_
          refine lv_istore (lv' := [(4, .int (iI (0))), (3, .ref (a_n_17)), (0, .ref (h)), (1, .int (iI (t))), (2, .int (iI (v)))]) hx hb dX3_row_76 hl (by decide) rfl (fun ls hl => ?_)
          have L_78 : ∀ (n_ : Nat) (qq : Nat) (j : Int) (hj : 0 ≤ j ∧ j ≤ 8) (hq2 : H0.size ≤ qq) (hg : (-65535 ≤ t ∧ t ≤ 65535) ∧ (-8192 ≤ v ∧ v ≤ 8192) ∧ (-65535 ≤ t + 7 * v ∧ t + 7 * v ≤ 65535)) (H_L78 : Heap) (locs : List Loc) (cells_78 slots_78 : Nat) (hcs_78 : cells_78 = (1) + j.toNat ∧ slots_78 = (8) + 3 * j.toNat) (kw : Keep (fun q => q = h ∨ q = mc) H0 H_L78) (hK : KH G s H_L78) (hS : va_S (xA (fun q => q = h ∨ q = mc) H0) H0 H_L78 locs) (hwl : MW G (h) (mc) (0) (ac) (no) (kn) (cc) H_L78) (hta : TArr G (qq) (fun k => k < j.toNat) (fun i => mk 0 (t + (i : Int) * v)) H_L78) (hm_ : ((8 : Int) - j).toNat < n_) (ls : Array Slot) (hl : lv_has ls 5 [(4, .int (iI (j))), (3, .ref (qq)), (0, .ref (h)), (1, .int (iI (t))), (2, .int (iI (v)))]), W p l e { frames := 3, cells := 9, slots := 32, locals := 61 } s m ([.ref (h), .int (iI (t)), .int (iI (v))] : List Value).toArray below meth c H_L78 locs cells_78 slots_78 (MQ below (xQ (fun (rv : Option Value) (H1 : Heap) => ∃ z : Res, op_row ac no cc (t) (v) = z ∧ rv = some (.int (iI z.2.1)) ∧ MW G h mc z.1 z.2.2.1 z.2.2.2.1 kn z.2.2.2.2 H1) (xA (fun q => q = h ∨ q = mc) H0)) ([.ref (h), .int (iI (t)), .int (iI (v))] : List Value).toArray s 9 32 (xA (fun q => q = h ∨ q = mc) H0)) (F0 m 78 ls []) := by
            intro n_
            induction n_ with
            | zero =>
              intro qq j hj hq2 hg H_L78 locs cells_78 slots_78 hcs_78 kw hK hS hwl hta hm_ ls hl
              exact absurd hm_ (Nat.not_lt_zero _)
            | succ n_ ih_78 =>
              intro qq j hj hq2 hg H_L78 locs cells_78 slots_78 hcs_78 kw hK hS hwl hta hm_ ls hl
              refine lv_iload hx hb dX3_row_78 (lv_at hl 0 rfl) ?_
              refine xi_bipush hx hb (by decide) dX3_row_80 ?_
              refine xi_icmp_ge (tgt := 104) hx hb dX3_row_82 (by decide) (by omega) (by omega) (fun c_82 => ?_) (fun c_82 => ?_)
              · skip
                refine lv_aload_n hx hb dX3_row_104 rfl (lv_at hl 2 rfl) ?_
                refine lv_aload_n hx hb dX3_row_105 rfl (lv_at hl 1 rfl) ?_
                obtain ⟨rd_, hqa_, hra_⟩ := TArr.full hta (fun k hk => by show k < j.toNat; omega)
                have hod_ : ∀ k : Nat, k < 8 → okR ((fun i => mk 0 (t + (i : Int) * v)) k) := by intro k hk; have h8_ : k = 0 ∨ k = 1 ∨ k = 2 ∨ k = 3 ∨ k = 4 ∨ k = 5 ∨ k = 6 ∨ k = 7 := (by omega); rcases h8_ with rfl | rfl | rfl | rfl | rfl | rfl | rfl | rfl <;> exact okR_mk0 (Or.inl (by omega))
                have hw_o_18 := hwl
                obtain ⟨rb_o_18, hm_o_18, hq_o_18, hr_o_18, hza_o_18, hzc_o_18⟩ := hw_o_18
                refine x_c1V (as := [.ref (qq)]) (rest := []) S hK hm_o_18 rfl rfl (c_X3_comeAll l G H_L78 (mc) (0) (ac) (no) (kn) (cc) (rd_) (fun i => mk 0 (t + (i : Int) * v)) (h) (qq) (by first | assumption | omega) (by first | assumption | omega) (by first | assumption | omega) (by assumption) (by omega) (by exact hod_) hwl hqa_ hra_) q1215 q1217 qs12 q43 q1218 hdX3_comeAll ⟨by decide, by decide⟩ hl.1 rfl rfl (Nat.le_of_ble_eq_true rfl) ⟨(by show _ ≤ (9 : Nat); omega), (by show _ ≤ (32 : Nat); omega)⟩ hS (fun q z => Or.inl z) (fun q z => Or.inr z) dX3_row_106 (fun rv_c_19 H_c_19 locs hp_c_19 k_c_19 hS => ?_)
                have kw := kw.then k_c_19 (fun q e _ => e)
                have hK := hK.keep k_c_19 (fun q e => by have e : q = h ∨ q = mc := e; omega)
                obtain ⟨rfl, hw_r_20⟩ := hp_c_19
                refine W.eq (g2 := F0 m 109 ls [.int (iI (cntZ (fun i => b2i (¬ alikeR ((cc) i) ((fun i => mk 0 (t + (i : Int) * v)) i))) 8))]) rfl ?_
                refine x_ret1i hx hb hr hlk hH hS (by omega) (by omega) ?_ dX3_row_109
                first | (exfalso; omega) | exact ⟨(_, _, _, _, _), (by unfold op_row; (repeat (first | with_reducible refine ifp (by omega) ?_ | with_reducible refine ifn (by omega) ?_)); first | rfl | exact comeF_s (by assumption) | exact comeF_n (by assumption) | exact comeF_s (if_pos (by omega)) | exact comeF_n (if_neg (by omega))), rfl, hw_r_20⟩
              · skip
                refine lv_aload_n hx hb dX3_row_85 rfl (lv_at hl 1 rfl) ?_
                refine lv_iload hx hb dX3_row_86 (lv_at hl 0 rfl) ?_
                refine lv_iload_n hx hb dX3_row_88 rfl (lv_at hl 3 rfl) ?_
                refine lv_iload hx hb dX3_row_89 (lv_at hl 0 rfl) ?_
                refine lv_iload_n hx hb dX3_row_91 rfl (lv_at hl 4 rfl) ?_
                refine xi_imul hx hb dX3_row_92 ?_
                refine xi_name (fun pp e_pp => ?_)
                have pp_ := mulB (a := j) (b := v) (A := 7) (B := 8192) (by omega) (by omega)
                refine xi_iadd hx hb dX3_row_93 ?_
                refine x_c1S (as := [.int (iI ((t) + (pp)))]) (rest := [.int (iI (j)), .ref (qq)]) S hK (c_X3_exact l G H_L78 ((t) + (pp)) (by omega) ) q1139 q1140 q43 q1141 hdX3_exact ⟨by decide, by decide⟩ hl.1 rfl rfl (Nat.le_of_ble_eq_true rfl) ⟨(by show _ ≤ (9 : Nat); omega), (by show _ ≤ (32 : Nat); omega)⟩ hS (fun _ z => z.elim) (fun q z => Or.inr z) dX3_row_94 (fun rv_c_21 H_c_21 locs hp_c_21 k_c_21 hS => ?_)
                have kw := kw.then k_c_21 (fun q z _ => z.elim)
                have hK := hK.ext k_c_21
                have hwl := hwl.ext k_c_21
                have hta := hta.ext k_c_21
                obtain ⟨a_r_22, rfl, hq_r_22⟩ := hp_c_21
                refine W.eq (g2 := F0 m 97 ls [.ref (a_r_22), .int (iI (j)), .ref (qq)]) rfl ?_
                obtain ⟨f_t_23, hf_t_23, hp_t_23⟩ := hta
                have hv_t_23 : RowAt G (a_r_22) ((fun i => mk 0 (t + (i : Int) * v)) (j).toNat) H_c_21 := by show RowAt G _ (mk 0 (t + ((j.toNat : Nat) : Int) * v)) _; rw [toNat_cast hj.1, ← e_pp]; exact hq_r_22
                refine x_aastI S hK hf_t_23 hq_r_22 (by omega) (by omega) hS (Or.inr (by omega)) dX3_row_97 (fun H_t_23 locs hq_t_23 k_t_23 hz_t_23 hS => ?_)
                have hn_t_23 := TArr.put hf_t_23 hp_t_23 k_t_23 hq_t_23 hv_t_23
                have kw := kw.then k_t_23 (fun q e hlt => by have e : q = qq := e; exact absurd hlt (by omega))
                have hK := hK.keep k_t_23 (fun q e => by have e : q = qq := e; omega)
                have hwl := hwl.keepT hK k_t_23 hf_t_23 rfl (by omega)
                have hq_r_22 := hq_r_22.keep k_t_23 (ne_len hq_r_22 hf_t_23 (Nat.ne_of_beq_eq_false rfl))
                refine xi_iinc (lv' := [(4, .int (iI (j + 1))), (3, .ref (qq)), (0, .ref (h)), (1, .int (iI (t))), (2, .int (iI (v)))]) hx hb dX3_row_98 hl (k := 0) rfl (by decide) rfl (fun ls hl => ?_)
                refine lv_goto (tgt := 78) hx hb dX3_row_101 (by decide) ?_
                exact ih_78 (qq) (j + 1) (by omega) (by omega) (by omega) H_t_23 locs ((cells_78 + 1)) ((slots_78 + 3)) (by constructor <;> omega) kw hK hS hwl (TArr.c (fun k _ (z : k < (j + 1).toNat) => by show k < j.toNat ∨ k = j.toNat; omega) hn_t_23) (by omega) ls (lv_sub hl [0, 1, 2, 3, 4] rfl)
          exact L_78 ((((8 : Int) - (0)).toNat) + 1) (a_n_17) (0) (by omega) (by omega) (by omega) H_n_17 locs 1 8 (by constructor <;> omega) kw hK hS hw_r_16 (TArr.c (fun k _ (z : k < (0 : Int).toNat) => absurd z (by omega)) hq_n_17) (by omega) ls (lv_sub hl [0, 1, 2, 3, 4] rfl)
        · skip
          refine lv_aload_n hx hb dX3_row_62 rfl (lv_at hl 0 rfl) ?_
          refine xi_iconst hx hb dX3_row_63 ?_
          refine lv_null hx hb dX3_row_64 ?_
          have hw_o_24 := hw_r_16
          obtain ⟨rb_o_24, hm_o_24, hq_o_24, hr_o_24, hza_o_24, hzc_o_24⟩ := hw_o_24
          refine x_c1V (as := [.int (iI (0)), .null]) (rest := []) S hK hm_o_24 rfl rfl (c_X3_comeN l G H_c_15 (mc) (0) (ac) (no) (kn) (cc) (h) (0) (by omega) (by first | assumption | omega) (by first | assumption | omega) (by first | assumption | omega) (by assumption) hw_r_16) q1190 q1192 qs11 q43 q1193 hdX3_come ⟨by decide, by decide⟩ hl.1 rfl rfl (Nat.le_of_ble_eq_true rfl) ⟨Nat.le_of_ble_eq_true rfl, Nat.le_of_ble_eq_true rfl⟩ hS (fun q z => Or.inl z) (fun q z => Or.inr z) dX3_row_65 (fun rv_c_25 H_c_25 locs hp_c_25 k_c_25 hS => ?_)
          have kw := kw.then k_c_25 (fun q e _ => e)
          have hK := hK.keep k_c_25 (fun q e => by have e : q = h ∨ q = mc := e; omega)
          obtain ⟨rfl, hw_r_26⟩ := hp_c_25
          refine W.eq (g2 := F0 m 68 ls [.int (iI (-9))]) rfl ?_
          refine x_ret1i hx hb hr hlk hH hS (by omega) (by omega) ?_ dX3_row_68
          first | (exfalso; omega) | exact ⟨(_, _, _, _, _), (by unfold op_row; (repeat (first | with_reducible refine ifp (by omega) ?_ | with_reducible refine ifn (by omega) ?_)); first | rfl | exact comeF_s (by assumption) | exact comeF_n (by assumption) | exact comeF_s (if_pos (by omega)) | exact comeF_n (if_neg (by omega))), rfl, hw_r_26⟩
      · skip
        obtain rfl : th_r_16 = 1 := by omega
        refine xi_iconst hx hb dX3_row_41 ?_
        refine x_ret1i hx hb hr hlk hH hS (by omega) (by omega) ?_ dX3_row_42
        first | (exfalso; omega) | exact ⟨(_, _, _, _, _), (by unfold op_row; (repeat (first | with_reducible refine ifp (by omega) ?_ | with_reducible refine ifn (by omega) ?_)); first | rfl | exact comeF_s (by assumption) | exact comeF_n (by assumption) | exact comeF_s (if_pos (by omega)) | exact comeF_n (if_neg (by omega))), rfl, hw_r_16⟩
    · skip
      refine xi_iconst hx hb dX3_row_29 ?_
      refine lv_goto (tgt := 34) hx hb dX3_row_30 (by decide) ?_
      refine xi_iconst hx hb dX3_row_34 ?_
      have hw_o_27 := hw
      obtain ⟨rb_o_27, hm_o_27, hq_o_27, hr_o_27, hza_o_27, hzc_o_27⟩ := hw_o_27
      refine x_c1V (as := [.int (iI (1)), .int (iI (1))]) (rest := []) S hK hm_o_27 rfl rfl (c_X3_start l G H0 (mc) (th) (ac) (no) (kn) (cc) (h) (True) (1) (by omega) (by first | assumption | omega) (by first | assumption | omega) (by first | assumption | omega) (by assumption) (by omega) hw) q1180 q1182 qs9 q43 q1183 hdX3_start ⟨by decide, by decide⟩ hl.1 rfl rfl (Nat.le_of_ble_eq_true rfl) ⟨Nat.le_of_ble_eq_true rfl, Nat.le_of_ble_eq_true rfl⟩ hS (fun q e => Or.inl (Or.inl e)) (fun q z => Or.inr z) dX3_row_35 (fun rv_c_28 H_c_28 locs hp_c_28 k_c_28 hS => ?_)
      have kw := kw.then k_c_28 (fun q e _ => Or.inl e)
      have hK := hK.keep k_c_28 (fun q e => by have e : q = h := e; omega)
      obtain ⟨th_r_29, hth_r_29, rfl, hw_r_29⟩ := hp_c_28
      have hth_r_29 := hth_r_29.elim (fun z => z.2) (fun z => absurd trivial z.1)
      refine W.eq (g2 := F0 m 38 ls [.int (iI (b2i (0 < (th_r_29))))]) rfl ?_
      refine xi_ifb_eq (tgt := 43) hx hb dX3_row_38 (by decide) (fun c_38 => ?_) (fun c_38 => ?_)
      · skip
        obtain rfl : th_r_29 = 0 := by omega
        refine lv_iload_n hx hb dX3_row_43 rfl (lv_at hl 1 rfl) ?_
        refine xi_bipush hx hb (by decide) dX3_row_44 ?_
        refine lv_iload_n hx hb dX3_row_46 rfl (lv_at hl 2 rfl) ?_
        refine xi_imul hx hb dX3_row_47 ?_
        refine xi_iadd hx hb dX3_row_48 ?_
        refine xi_i2l hx hb (by omega) dX3_row_49 ?_
        refine xi_ldc2 (z := -65535) hx hb S.2.2.2.1 S.2.2.2.2 q1188 (by decide +kernel) dX3_row_50 ?_
        refine xi_ldc2 (z := 65535) hx hb S.2.2.2.1 S.2.2.2.2 q1189 (by decide +kernel) dX3_row_53 ?_
        refine x_c0S (as := [.long (jI ((t) + ((7) * (v)))), .long (jI (-65535)), .long (jI (65535))]) (rest := []) S hK (c_X3_isIn l G H_c_28 ((t) + ((7) * (v))) (-65535) (65535) (by omega) (by omega) (by omega) ) q1177 q1178 q43 q1179 hdX3_isIn ⟨by decide, by decide⟩ hl.1 rfl rfl (Nat.le_of_ble_eq_true rfl) ⟨Nat.le_of_ble_eq_true rfl, Nat.le_of_ble_eq_true rfl⟩ dX3_row_56 ?_
        refine xi_ifb_ne (tgt := 69) hx hb dX3_row_59 (by decide) (fun c_59 => ?_) (fun c_59 => ?_)
        · skip
          refine xi_bipush hx hb (by decide) dX3_row_69 ?_
          refine x_anewI S hK q1137 (by omega) ⟨Nat.le_of_ble_eq_true rfl, Nat.le_of_ble_eq_true rfl⟩ hS dX3_row_71 (fun a_n_30 H_n_30 ha_n_30 hq_n_30 k_n_30 hS => ?_)
          have hge_n_30 : H0.size ≤ a_n_30 := by rw [ha_n_30]; exact kw.1
          have sn_n_30_hw_r_29 := hw_r_29
          have kb_n_30 : Keep noW H_c_28 H_c_28 := Keep.rf
          have kw := kw.then k_n_30 (fun q z _ => z.elim)
          have hK := hK.ext k_n_30
          have kb_n_30 := kb_n_30.trans k_n_30
          have hw_r_29 := hw_r_29.ext k_n_30
          have hq_n_30 : TArr G a_n_30 (fun _ => False) (fun i => mk 0 (t + (i : Int) * v)) H_n_30 := TArr.new hq_n_30
          refine lv_astore_n (lv' := [(3, .ref (a_n_30)), (0, .ref (h)), (1, .int (iI (t))), (2, .int (iI (v)))]) hx hb dX3_row_74 rfl hl (by decide) rfl (fun ls hl => ?_)
          refine xi_iconst hx hb dX3_row_75 ?_
          refine lv_istore (lv' := [(4, .int (iI (0))), (3, .ref (a_n_30)), (0, .ref (h)), (1, .int (iI (t))), (2, .int (iI (v)))]) hx hb dX3_row_76 hl (by decide) rfl (fun ls hl => ?_)
          have L_78 : ∀ (n_ : Nat) (qq : Nat) (j : Int) (hj : 0 ≤ j ∧ j ≤ 8) (hq2 : H0.size ≤ qq) (hg : (-65535 ≤ t ∧ t ≤ 65535) ∧ (-8192 ≤ v ∧ v ≤ 8192) ∧ (-65535 ≤ t + 7 * v ∧ t + 7 * v ≤ 65535)) (H_L78 : Heap) (locs : List Loc) (cells_78 slots_78 : Nat) (hcs_78 : cells_78 = (1) + j.toNat ∧ slots_78 = (8) + 3 * j.toNat) (kw : Keep (fun q => q = h ∨ q = mc) H0 H_L78) (hK : KH G s H_L78) (hS : va_S (xA (fun q => q = h ∨ q = mc) H0) H0 H_L78 locs) (hwl : MW G (h) (mc) (0) (ac) (no) (kn) (cc) H_L78) (hta : TArr G (qq) (fun k => k < j.toNat) (fun i => mk 0 (t + (i : Int) * v)) H_L78) (hm_ : ((8 : Int) - j).toNat < n_) (ls : Array Slot) (hl : lv_has ls 5 [(4, .int (iI (j))), (3, .ref (qq)), (0, .ref (h)), (1, .int (iI (t))), (2, .int (iI (v)))]), W p l e { frames := 3, cells := 9, slots := 32, locals := 61 } s m ([.ref (h), .int (iI (t)), .int (iI (v))] : List Value).toArray below meth c H_L78 locs cells_78 slots_78 (MQ below (xQ (fun (rv : Option Value) (H1 : Heap) => ∃ z : Res, op_row ac no cc (t) (v) = z ∧ rv = some (.int (iI z.2.1)) ∧ MW G h mc z.1 z.2.2.1 z.2.2.2.1 kn z.2.2.2.2 H1) (xA (fun q => q = h ∨ q = mc) H0)) ([.ref (h), .int (iI (t)), .int (iI (v))] : List Value).toArray s 9 32 (xA (fun q => q = h ∨ q = mc) H0)) (F0 m 78 ls []) := by
            intro n_
            induction n_ with
            | zero =>
              intro qq j hj hq2 hg H_L78 locs cells_78 slots_78 hcs_78 kw hK hS hwl hta hm_ ls hl
              exact absurd hm_ (Nat.not_lt_zero _)
            | succ n_ ih_78 =>
              intro qq j hj hq2 hg H_L78 locs cells_78 slots_78 hcs_78 kw hK hS hwl hta hm_ ls hl
              refine lv_iload hx hb dX3_row_78 (lv_at hl 0 rfl) ?_
              refine xi_bipush hx hb (by decide) dX3_row_80 ?_
              refine xi_icmp_ge (tgt := 104) hx hb dX3_row_82 (by decide) (by omega) (by omega) (fun c_82 => ?_) (fun c_82 => ?_)
              · skip
                refine lv_aload_n hx hb dX3_row_104 rfl (lv_at hl 2 rfl) ?_
                refine lv_aload_n hx hb dX3_row_105 rfl (lv_at hl 1 rfl) ?_
                obtain ⟨rd_, hqa_, hra_⟩ := TArr.full hta (fun k hk => by show k < j.toNat; omega)
                have hod_ : ∀ k : Nat, k < 8 → okR ((fun i => mk 0 (t + (i : Int) * v)) k) := by intro k hk; have h8_ : k = 0 ∨ k = 1 ∨ k = 2 ∨ k = 3 ∨ k = 4 ∨ k = 5 ∨ k = 6 ∨ k = 7 := (by omega); rcases h8_ with rfl | rfl | rfl | rfl | rfl | rfl | rfl | rfl <;> exact okR_mk0 (Or.inl (by omega))
                have hw_o_31 := hwl
                obtain ⟨rb_o_31, hm_o_31, hq_o_31, hr_o_31, hza_o_31, hzc_o_31⟩ := hw_o_31
                refine x_c1V (as := [.ref (qq)]) (rest := []) S hK hm_o_31 rfl rfl (c_X3_comeAll l G H_L78 (mc) (0) (ac) (no) (kn) (cc) (rd_) (fun i => mk 0 (t + (i : Int) * v)) (h) (qq) (by first | assumption | omega) (by first | assumption | omega) (by first | assumption | omega) (by assumption) (by omega) (by exact hod_) hwl hqa_ hra_) q1215 q1217 qs12 q43 q1218 hdX3_comeAll ⟨by decide, by decide⟩ hl.1 rfl rfl (Nat.le_of_ble_eq_true rfl) ⟨(by show _ ≤ (9 : Nat); omega), (by show _ ≤ (32 : Nat); omega)⟩ hS (fun q z => Or.inl z) (fun q z => Or.inr z) dX3_row_106 (fun rv_c_32 H_c_32 locs hp_c_32 k_c_32 hS => ?_)
                have kw := kw.then k_c_32 (fun q e _ => e)
                have hK := hK.keep k_c_32 (fun q e => by have e : q = h ∨ q = mc := e; omega)
                obtain ⟨rfl, hw_r_33⟩ := hp_c_32
                refine W.eq (g2 := F0 m 109 ls [.int (iI (cntZ (fun i => b2i (¬ alikeR ((cc) i) ((fun i => mk 0 (t + (i : Int) * v)) i))) 8))]) rfl ?_
                refine x_ret1i hx hb hr hlk hH hS (by omega) (by omega) ?_ dX3_row_109
                first | (exfalso; omega) | exact ⟨(_, _, _, _, _), (by unfold op_row; (repeat (first | with_reducible refine ifp (by omega) ?_ | with_reducible refine ifn (by omega) ?_)); first | rfl | exact comeF_s (by assumption) | exact comeF_n (by assumption) | exact comeF_s (if_pos (by omega)) | exact comeF_n (if_neg (by omega))), rfl, hw_r_33⟩
              · skip
                refine lv_aload_n hx hb dX3_row_85 rfl (lv_at hl 1 rfl) ?_
                refine lv_iload hx hb dX3_row_86 (lv_at hl 0 rfl) ?_
                refine lv_iload_n hx hb dX3_row_88 rfl (lv_at hl 3 rfl) ?_
                refine lv_iload hx hb dX3_row_89 (lv_at hl 0 rfl) ?_
                refine lv_iload_n hx hb dX3_row_91 rfl (lv_at hl 4 rfl) ?_
                refine xi_imul hx hb dX3_row_92 ?_
                refine xi_name (fun pp e_pp => ?_)
                have pp_ := mulB (a := j) (b := v) (A := 7) (B := 8192) (by omega) (by omega)
                refine xi_iadd hx hb dX3_row_93 ?_
                refine x_c1S (as := [.int (iI ((t) + (pp)))]) (rest := [.int (iI (j)), .ref (qq)]) S hK (c_X3_exact l G H_L78 ((t) + (pp)) (by omega) ) q1139 q1140 q43 q1141 hdX3_exact ⟨by decide, by decide⟩ hl.1 rfl rfl (Nat.le_of_ble_eq_true rfl) ⟨(by show _ ≤ (9 : Nat); omega), (by show _ ≤ (32 : Nat); omega)⟩ hS (fun _ z => z.elim) (fun q z => Or.inr z) dX3_row_94 (fun rv_c_34 H_c_34 locs hp_c_34 k_c_34 hS => ?_)
                have kw := kw.then k_c_34 (fun q z _ => z.elim)
                have hK := hK.ext k_c_34
                have hwl := hwl.ext k_c_34
                have hta := hta.ext k_c_34
                obtain ⟨a_r_35, rfl, hq_r_35⟩ := hp_c_34
                refine W.eq (g2 := F0 m 97 ls [.ref (a_r_35), .int (iI (j)), .ref (qq)]) rfl ?_
                obtain ⟨f_t_36, hf_t_36, hp_t_36⟩ := hta
                have hv_t_36 : RowAt G (a_r_35) ((fun i => mk 0 (t + (i : Int) * v)) (j).toNat) H_c_34 := by show RowAt G _ (mk 0 (t + ((j.toNat : Nat) : Int) * v)) _; rw [toNat_cast hj.1, ← e_pp]; exact hq_r_35
                refine x_aastI S hK hf_t_36 hq_r_35 (by omega) (by omega) hS (Or.inr (by omega)) dX3_row_97 (fun H_t_36 locs hq_t_36 k_t_36 hz_t_36 hS => ?_)
                have hn_t_36 := TArr.put hf_t_36 hp_t_36 k_t_36 hq_t_36 hv_t_36
                have kw := kw.then k_t_36 (fun q e hlt => by have e : q = qq := e; exact absurd hlt (by omega))
                have hK := hK.keep k_t_36 (fun q e => by have e : q = qq := e; omega)
                have hwl := hwl.keepT hK k_t_36 hf_t_36 rfl (by omega)
                have hq_r_35 := hq_r_35.keep k_t_36 (ne_len hq_r_35 hf_t_36 (Nat.ne_of_beq_eq_false rfl))
                refine xi_iinc (lv' := [(4, .int (iI (j + 1))), (3, .ref (qq)), (0, .ref (h)), (1, .int (iI (t))), (2, .int (iI (v)))]) hx hb dX3_row_98 hl (k := 0) rfl (by decide) rfl (fun ls hl => ?_)
                refine lv_goto (tgt := 78) hx hb dX3_row_101 (by decide) ?_
                exact ih_78 (qq) (j + 1) (by omega) (by omega) (by omega) H_t_36 locs ((cells_78 + 1)) ((slots_78 + 3)) (by constructor <;> omega) kw hK hS hwl (TArr.c (fun k _ (z : k < (j + 1).toNat) => by show k < j.toNat ∨ k = j.toNat; omega) hn_t_36) (by omega) ls (lv_sub hl [0, 1, 2, 3, 4] rfl)
          exact L_78 ((((8 : Int) - (0)).toNat) + 1) (a_n_30) (0) (by omega) (by omega) (by omega) H_n_30 locs 1 8 (by constructor <;> omega) kw hK hS hw_r_29 (TArr.c (fun k _ (z : k < (0 : Int).toNat) => absurd z (by omega)) hq_n_30) (by omega) ls (lv_sub hl [0, 1, 2, 3, 4] rfl)
        · skip
          refine lv_aload_n hx hb dX3_row_62 rfl (lv_at hl 0 rfl) ?_
          refine xi_iconst hx hb dX3_row_63 ?_
          refine lv_null hx hb dX3_row_64 ?_
          have hw_o_37 := hw_r_29
          obtain ⟨rb_o_37, hm_o_37, hq_o_37, hr_o_37, hza_o_37, hzc_o_37⟩ := hw_o_37
          refine x_c1V (as := [.int (iI (0)), .null]) (rest := []) S hK hm_o_37 rfl rfl (c_X3_comeN l G H_c_28 (mc) (0) (ac) (no) (kn) (cc) (h) (0) (by omega) (by first | assumption | omega) (by first | assumption | omega) (by first | assumption | omega) (by assumption) hw_r_29) q1190 q1192 qs11 q43 q1193 hdX3_come ⟨by decide, by decide⟩ hl.1 rfl rfl (Nat.le_of_ble_eq_true rfl) ⟨Nat.le_of_ble_eq_true rfl, Nat.le_of_ble_eq_true rfl⟩ hS (fun q z => Or.inl z) (fun q z => Or.inr z) dX3_row_65 (fun rv_c_38 H_c_38 locs hp_c_38 k_c_38 hS => ?_)
          have kw := kw.then k_c_38 (fun q e _ => e)
          have hK := hK.keep k_c_38 (fun q e => by have e : q = h ∨ q = mc := e; omega)
          obtain ⟨rfl, hw_r_39⟩ := hp_c_38
          refine W.eq (g2 := F0 m 68 ls [.int (iI (-9))]) rfl ?_
          refine x_ret1i hx hb hr hlk hH hS (by omega) (by omega) ?_ dX3_row_68
          first | (exfalso; omega) | exact ⟨(_, _, _, _, _), (by unfold op_row; (repeat (first | with_reducible refine ifp (by omega) ?_ | with_reducible refine ifn (by omega) ?_)); first | rfl | exact comeF_s (by assumption) | exact comeF_n (by assumption) | exact comeF_s (if_pos (by omega)) | exact comeF_n (if_neg (by omega))), rfl, hw_r_39⟩
      · skip
        obtain rfl : th_r_29 = 1 := by omega
        refine xi_iconst hx hb dX3_row_41 ?_
        refine x_ret1i hx hb hr hlk hH hS (by omega) (by omega) ?_ dX3_row_42
        first | (exfalso; omega) | exact ⟨(_, _, _, _, _), (by unfold op_row; (repeat (first | with_reducible refine ifp (by omega) ?_ | with_reducible refine ifn (by omega) ?_)); first | rfl | exact comeF_s (by assumption) | exact comeF_n (by assumption) | exact comeF_s (if_pos (by omega)) | exact comeF_n (if_neg (by omega))), rfl, hw_r_29⟩

theorem hpX3_all : plainFor yX3_all = true := by decide +kernel
theorem hdX3_all : nMH yX3_all 1 := by decide +kernel
set_option maxHeartbeats 4000000 in
theorem c_X3_all (l : Launch) (G : GG) (H0 : Heap) (mc : Nat) (th : Int) (ac : Int) (no : Int) (kn : Int) (cc : Nat → Row) (h : Nat) (how : Int) (r_how : -2147483648 ≤ how ∧ how < 2147483648) (hac : 0 ≤ ac ∧ ac ≤ 1000) (hno : 0 ≤ no ∧ no ≤ 1000) (hkn : 0 ≤ kn ∧ kn ≤ 1000) (hok : ∀ k : Nat, k < 8 → okR (cc k)) (hw : MW G (h) (mc) (th) (ac) (no) (kn) (cc) H0) : Ct1 l G yX3_all cX3_all 5 (Option.some Jvm.ClassFile.FieldType.int) 5 8 24 114 [.ref (h), .int (iI (how))] H0 (fun q => q = h ∨ q = mc) (fun (rv : Option Value) (H1 : Heap) => ∃ z : Res, op_all ac no cc (how) = z ∧ rv = some (.int (iI z.2.1)) ∧ MW G h mc z.1 z.2.2.1 z.2.2.2.1 kn z.2.2.2.2 H1) := by
  refine Ct1.start hpX3_all (Nat.le_of_ble_eq_true rfl) ?_
  intro p e s m below meth c ls hx hb hr S hlk hname hH hK hS hl
  have hl : lv_has ls 5 [(0, .ref (h)), (1, .int (iI (how)))] := hl
  have hbc : ∀ k : Nat, k < 8 → bRow (cc k) := fun k h => okR_b (hok k h)
  have kw : Keep (fun q => q = h ∨ q = mc) H0 H0 := Keep.rf
  have hz0 := hK.2.2.1
  refine lv_aload_n hx hb dX3_all_0 rfl (lv_at hl 0 rfl) ?_
  refine lv_iload_n hx hb dX3_all_1 rfl (lv_at hl 1 rfl) ?_
  refine xi_i2l hx hb (by omega) dX3_all_2 ?_
  refine xi_lconst (z := 1) hx hb (by decide +kernel) dX3_all_3 ?_
  refine xi_ldc2 (z := 5) hx hb S.2.2.2.1 S.2.2.2.2 q1285 (by decide +kernel) dX3_all_4 ?_
  refine x_c0S (as := [.long (jI (how)), .long (jI (1)), .long (jI (5))]) (rest := [.ref (h)]) S hK (c_X3_isIn l G H0 (how) (1) (5) (by omega) (by omega) (by omega) ) q1177 q1178 q43 q1179 hdX3_isIn ⟨by decide, by decide⟩ hl.1 rfl rfl (Nat.le_of_ble_eq_true rfl) ⟨Nat.le_of_ble_eq_true rfl, Nat.le_of_ble_eq_true rfl⟩ dX3_all_7 ?_
  refine xi_ifb_ne (tgt := 17) hx hb dX3_all_10 (by decide) (fun c_10 => ?_) (fun c_10 => ?_)
  · skip
    refine xi_iconst hx hb dX3_all_17 ?_
    refine xi_iconst hx hb dX3_all_18 ?_
    have hw_o_1 := hw
    obtain ⟨rb_o_1, hm_o_1, hq_o_1, hr_o_1, hza_o_1, hzc_o_1⟩ := hw_o_1
    refine x_c1V (as := [.int (iI (0)), .int (iI (1))]) (rest := []) S hK hm_o_1 rfl rfl (c_X3_start l G H0 (mc) (th) (ac) (no) (kn) (cc) (h) (False) (1) (by omega) (by first | assumption | omega) (by first | assumption | omega) (by first | assumption | omega) (by assumption) (by omega) hw) q1180 q1182 qs9 q43 q1183 hdX3_start ⟨by decide, by decide⟩ hl.1 rfl rfl (Nat.le_of_ble_eq_true rfl) ⟨Nat.le_of_ble_eq_true rfl, Nat.le_of_ble_eq_true rfl⟩ hS (fun q e => Or.inl (Or.inl e)) (fun q z => Or.inr z) dX3_all_19 (fun rv_c_2 H_c_2 locs hp_c_2 k_c_2 hS => ?_)
    have kw := kw.then k_c_2 (fun q e _ => Or.inl e)
    have hK := hK.keep k_c_2 (fun q e => by have e : q = h := e; omega)
    obtain ⟨th_r_3, hth_r_3, rfl, hw_r_3⟩ := hp_c_2
    have hth_r_3 := hth_r_3.elim (fun z => z.1.elim) (fun z => z.2)
    refine W.eq (g2 := F0 m 22 ls [.int (iI (b2i (0 < (th_r_3))))]) rfl ?_
    refine xi_ifb_eq (tgt := 27) hx hb dX3_all_22 (by decide) (fun c_22 => ?_) (fun c_22 => ?_)
    · skip
      obtain rfl : th_r_3 = 0 := by omega
      refine xi_iconst hx hb dX3_all_27 ?_
      refine lv_istore_n (lv' := [(2, .int (iI (0))), (0, .ref (h)), (1, .int (iI (how)))]) hx hb dX3_all_28 rfl hl (by decide) rfl (fun ls hl => ?_)
      refine xi_iconst hx hb dX3_all_29 ?_
      refine lv_istore_n (lv' := [(3, .int (iI (0))), (2, .int (iI (0))), (0, .ref (h)), (1, .int (iI (how)))]) hx hb dX3_all_30 rfl hl (by decide) rfl (fun ls hl => ?_)
      have L_31 : ∀ (n_ : Nat) (j : Int) (k : Int) (hj : 0 ≤ j ∧ j ≤ 8) (hk : k = cntZ (fun i => b2i ((becomeR (cc i) how).isSome = true)) j.toNat) (hh : 1 ≤ how ∧ how ≤ 5) (H_L31 : Heap) (locs : List Loc) (cells_31 slots_31 : Nat) (hcs_31 : cells_31 = (0) + j.toNat ∧ slots_31 = (0) + 3 * j.toNat) (kw : Keep (fun q => q = h ∨ q = mc) H0 H_L31) (hK : KH G s H_L31) (hS : va_S (xA (fun q => q = h ∨ q = mc) H0) H0 H_L31 locs) (hwl : MW G (h) (mc) (0) (ac) (no) (kn) (allC cc how j.toNat) H_L31) (hm_ : ((8 : Int) - j).toNat < n_) (ls : Array Slot) (hl : lv_has ls 5 [(3, .int (iI (j))), (2, .int (iI (k))), (0, .ref (h)), (1, .int (iI (how)))]), W p l e { frames := 5, cells := 8, slots := 24, locals := 114 } s m ([.ref (h), .int (iI (how))] : List Value).toArray below meth c H_L31 locs cells_31 slots_31 (MQ below (xQ (fun (rv : Option Value) (H1 : Heap) => ∃ z : Res, op_all ac no cc (how) = z ∧ rv = some (.int (iI z.2.1)) ∧ MW G h mc z.1 z.2.2.1 z.2.2.2.1 kn z.2.2.2.2 H1) (xA (fun q => q = h ∨ q = mc) H0)) ([.ref (h), .int (iI (how))] : List Value).toArray s 8 24 (xA (fun q => q = h ∨ q = mc) H0)) (F0 m 31 ls []) := by
        intro n_
        induction n_ with
        | zero =>
          intro j k hj hk hh H_L31 locs cells_31 slots_31 hcs_31 kw hK hS hwl hm_ ls hl
          exact absurd hm_ (Nat.not_lt_zero _)
        | succ n_ ih_31 =>
          intro j k hj hk hh H_L31 locs cells_31 slots_31 hcs_31 kw hK hS hwl hm_ ls hl
          refine lv_iload_n hx hb dX3_all_31 rfl (lv_at hl 0 rfl) ?_
          refine xi_bipush hx hb (by decide) dX3_all_32 ?_
          refine xi_icmp_ge (tgt := 74) hx hb dX3_all_34 (by decide) (by omega) (by omega) (fun c_34 => ?_) (fun c_34 => ?_)
          · skip
            refine lv_aload_n hx hb dX3_all_74 rfl (lv_at hl 2 rfl) ?_
            refine lv_dup hx hb dX3_all_75 rfl ?_
            have hw_o_4 := hwl
            obtain ⟨rb_o_4, hm_o_4, hq_o_4, hr_o_4, hza_o_4, hzc_o_4⟩ := hw_o_4
            refine x_get S hK in_X3 hm_o_4 rfl 1 (by decide) q1149 (fun x h => h) rfl dX3_all_76 ?_
            refine xi_iconst hx hb dX3_all_79 ?_
            refine xi_iadd hx hb dX3_all_80 ?_
            refine x_put S hK in_X3 tyX3 tyX3_ok nmX3 hm_o_4 rfl 1 (by decide) q1149 (fun x h => h) rfl rfl rfl (Nat.le_of_ble_eq_true rfl) hS (Or.inl (Or.inl rfl)) dX3_all_81 (fun H_p_5 locs hq_p_5 k_p_5 hz_p_5 hS => ?_)
            have kw := kw.then k_p_5 (fun q e _ => Or.inl e)
            have hK := hK.keep k_p_5 (fun q e => by have e : q = h := e; omega)
            have hq_o_4 := hq_o_4.keep k_p_5 (Ne.symm (ne_oa hK rfl rfl hm_o_4 hq_o_4))
            have hr_o_4 := hr_o_4.keep k_p_5 (fun j hj => (Ne.symm (ne_oa hK rfl rfl hm_o_4 (hr_o_4 j hj))))
            have hm_o_4 : MdAt G (h) (0) ((ac) + (1)) (no) (kn) (mc) H_p_5 := hq_p_5
            refine lv_iload_n hx hb dX3_all_84 rfl (lv_at hl 1 rfl) ?_
            refine x_ret1i hx hb hr hlk hH hS (by omega) (by omega) ?_ dX3_all_85
            first | (exfalso; omega) | exact ⟨(0, k, ac + 1, no, allC cc how j.toNat), (by unfold op_all; (repeat (first | with_reducible refine ifp (by omega) ?_ | with_reducible refine ifn (by omega) ?_)); rw [hk, show j.toNat = 8 by omega]), rfl, ⟨rb_o_4, hm_o_4, hq_o_4, hr_o_4, hza_o_4, hzc_o_4⟩⟩
          · skip
            refine lv_aload_n hx hb dX3_all_37 rfl (lv_at hl 2 rfl) ?_
            have hw_o_6 := hwl
            obtain ⟨rb_o_6, hm_o_6, hq_o_6, hr_o_6, hza_o_6, hzc_o_6⟩ := hw_o_6
            refine x_get S hK in_X3 hm_o_6 rfl 4 (by decide) q1152 (fun x h => h) rfl dX3_all_38 ?_
            refine lv_iload_n hx hb dX3_all_41 rfl (lv_at hl 0 rfl) ?_
            refine x_aald S hK 3 rfl rfl hq_o_6 (by omega) (by omega) rfl dX3_all_42 ?_
            have hr_w_7 := hr_o_6 (j).toNat (by omega)
            rw [all_n] at hr_w_7
            have hbw_w_7 := hbc (j).toNat (by omega)
            refine lv_iload_n hx hb dX3_all_43 rfl (lv_at hl 3 rfl) ?_
            refine x_c1S (as := [.ref ((rb_o_6) ((j).toNat)), .int (iI (how))]) (rest := []) S hK (c_X3_become l G H_L31 (cc (j).toNat) ((rb_o_6) ((j).toNat)) (how) (by omega) (by first | assumption | (apply hbc; omega)) hr_w_7) q1245 q1246 q43 q1247 hdX3_become ⟨by decide, by decide⟩ hl.1 rfl rfl (Nat.le_of_ble_eq_true rfl) ⟨(by show _ ≤ (8 : Nat); omega), (by show _ ≤ (24 : Nat); omega)⟩ hS (fun _ z => z.elim) (fun q z => Or.inr z) dX3_all_44 (fun rv_c_8 H_c_8 locs hp_c_8 k_c_8 hS => ?_)
            have kw := kw.then k_c_8 (fun q z _ => z.elim)
            have hK := hK.ext k_c_8
            have hwl := hwl.ext k_c_8
            have hm_o_6 := hm_o_6.ext k_c_8
            have hq_o_6 := hq_o_6.ext k_c_8
            have hr_o_6 := hr_o_6.ext k_c_8
            have hr_w_7 := hr_w_7.ext k_c_8
            rcases hp_c_8 with ⟨r_r_9, a_r_9, e_r_9, rfl, hq_r_9⟩ | ⟨e_r_9, rfl⟩
            · skip
              refine W.eq (g2 := F0 m 47 ls [.ref (a_r_9)]) rfl ?_
              refine lv_astore (lv' := [(4, .ref (a_r_9)), (3, .int (iI (j))), (2, .int (iI (k))), (0, .ref (h)), (1, .int (iI (how)))]) hx hb dX3_all_47 hl (by decide) rfl (fun ls hl => ?_)
              refine lv_aload hx hb dX3_all_49 (lv_at hl 0 rfl) ?_
              refine lv_ifnonnull (tgt := 57) hx hb dX3_all_51 (by decide) ?_
              refine xi_iinc (lv' := [(2, .int (iI (k + 1))), (4, .ref (a_r_9)), (3, .int (iI (j))), (0, .ref (h)), (1, .int (iI (how)))]) hx hb dX3_all_57 hl (k := 2) rfl (by decide) rfl (fun ls hl => ?_)
              refine lv_aload_n hx hb dX3_all_60 rfl (lv_at hl 3 rfl) ?_
              refine x_get S hK in_X3 hm_o_6 rfl 4 (by decide) q1152 (fun x h => h) rfl dX3_all_61 ?_
              refine lv_iload_n hx hb dX3_all_64 rfl (lv_at hl 2 rfl) ?_
              refine lv_aload hx hb dX3_all_65 (lv_at hl 1 rfl) ?_
              refine x_aastI S hK hq_o_6 hq_r_9 (by omega) (by omega) hS (Or.inl (Or.inr rfl)) dX3_all_67 (fun H_q_10 locs hq_q_10 k_q_10 hz_q_10 hS => ?_)
              have kw := kw.then k_q_10 (fun q e _ => Or.inr e)
              have hK := hK.keep k_q_10 (fun q e => by have e : q = mc := e; omega)
              have hm_o_6 := hm_o_6.keep k_q_10 (ne_oa hK rfl rfl hm_o_6 hq_o_6)
              have hr_o_6 := hr_o_6.keep k_q_10 (fun j hj => (ne_len (hr_o_6 j hj) hq_o_6 (Nat.ne_of_beq_eq_false rfl)))
              have hr_w_7 := hr_w_7.keep k_q_10 (ne_len hr_w_7 hq_o_6 (Nat.ne_of_beq_eq_false rfl))
              have hq_r_9 := hq_r_9.keep k_q_10 (ne_len hq_r_9 hq_o_6 (Nat.ne_of_beq_eq_false rfl))
              obtain ⟨rb_q_10, hq_o_6, hr_o_6⟩ := rows_put hq_q_10 hr_o_6 (hq_r_9) (by omega)
              refine xi_iinc (lv' := [(3, .int (iI (j + 1))), (2, .int (iI (k + 1))), (4, .ref (a_r_9)), (0, .ref (h)), (1, .int (iI (how)))]) hx hb dX3_all_68 hl (k := 2) rfl (by decide) rfl (fun ls hl => ?_)
              refine lv_goto (tgt := 31) hx hb dX3_all_71 (by decide) ?_
              exact ih_31 (j + 1) (k + 1) (by omega) (by (first | rfl | exact cnt_up hj.1 hk (by show 1 = b2i ((becomeR (cc j.toNat) how).isSome = true); rw [‹becomeR (cc j.toNat) how = some _›]; rfl) | (rw [← cnt_up (v := 0) hj.1 hk (by show 0 = b2i ((becomeR (cc j.toNat) how).isSome = true); rw [‹becomeR (cc j.toNat) how = none›]; rfl)]; omega))) (by omega) H_q_10 locs ((cells_31 + 1)) ((slots_31 + 3)) (by constructor <;> omega) kw hK hS (MW.c (all_s hj.1 (by assumption)) ⟨rb_q_10, hm_o_6, hq_o_6, hr_o_6, hza_o_6, hzc_o_6⟩) (by omega) ls (lv_sub hl [0, 1, 3, 4] rfl)
            · skip
              refine W.eq (g2 := F0 m 47 ls [.null]) rfl ?_
              refine lv_astoreN (lv' := [(4, .null), (3, .int (iI (j))), (2, .int (iI (k))), (0, .ref (h)), (1, .int (iI (how)))]) hx hb dX3_all_47 hl (by decide) rfl (fun ls hl => ?_)
              refine lv_aloadN hx hb dX3_all_49 (lv_at hl 0 rfl) ?_
              refine lv_ifnonnullN hx hb dX3_all_51 ?_
              refine lv_goto (tgt := 68) hx hb dX3_all_54 (by decide) ?_
              refine xi_iinc (lv' := [(3, .int (iI (j + 1))), (4, .null), (2, .int (iI (k))), (0, .ref (h)), (1, .int (iI (how)))]) hx hb dX3_all_68 hl (k := 1) rfl (by decide) rfl (fun ls hl => ?_)
              refine lv_goto (tgt := 31) hx hb dX3_all_71 (by decide) ?_
              exact ih_31 (j + 1) (k) (by omega) (by (first | rfl | exact cnt_up hj.1 hk (by show 1 = b2i ((becomeR (cc j.toNat) how).isSome = true); rw [‹becomeR (cc j.toNat) how = some _›]; rfl) | (rw [← cnt_up (v := 0) hj.1 hk (by show 0 = b2i ((becomeR (cc j.toNat) how).isSome = true); rw [‹becomeR (cc j.toNat) how = none›]; rfl)]; omega))) (by omega) H_c_8 locs ((cells_31 + 1)) ((slots_31 + 3)) (by constructor <;> omega) kw hK hS (MW.c (all_z hj.1 (by assumption)) ⟨rb_o_6, hm_o_6, hq_o_6, hr_o_6, hza_o_6, hzc_o_6⟩) (by omega) ls (lv_sub hl [0, 2, 3, 4] rfl)
      exact L_31 ((((8 : Int) - (0)).toNat) + 1) (0) (0) (by omega) (by (first | rfl | exact cnt_up hj.1 hk (by show 1 = b2i ((becomeR (cc j.toNat) how).isSome = true); rw [‹becomeR (cc j.toNat) how = some _›]; rfl) | (rw [← cnt_up (v := 0) hj.1 hk (by show 0 = b2i ((becomeR (cc j.toNat) how).isSome = true); rw [‹becomeR (cc j.toNat) how = none›]; rfl)]; omega))) (by omega) H_c_2 locs 0 0 (by constructor <;> omega) kw hK hS (MW.c all_0.symm hw_r_3) (by omega) ls (lv_sub hl [0, 1, 2, 3] rfl)
    · skip
      obtain rfl : th_r_3 = 1 := by omega
      refine xi_iconst hx hb dX3_all_25 ?_
      refine x_ret1i hx hb hr hlk hH hS (by omega) (by omega) ?_ dX3_all_26
      first | (exfalso; omega) | exact ⟨(_, _, _, _, _), (by unfold op_all; (repeat (first | with_reducible refine ifp (by omega) ?_ | with_reducible refine ifn (by omega) ?_)); first | rfl | exact comeF_s (by assumption) | exact comeF_n (by assumption) | exact comeF_s (if_pos (by omega)) | exact comeF_n (if_neg (by omega))), rfl, hw_r_3⟩
  · skip
    refine xi_iconst hx hb dX3_all_13 ?_
    refine lv_goto (tgt := 18) hx hb dX3_all_14 (by decide) ?_
    refine xi_iconst hx hb dX3_all_18 ?_
    have hw_o_11 := hw
    obtain ⟨rb_o_11, hm_o_11, hq_o_11, hr_o_11, hza_o_11, hzc_o_11⟩ := hw_o_11
    refine x_c1V (as := [.int (iI (1)), .int (iI (1))]) (rest := []) S hK hm_o_11 rfl rfl (c_X3_start l G H0 (mc) (th) (ac) (no) (kn) (cc) (h) (True) (1) (by omega) (by first | assumption | omega) (by first | assumption | omega) (by first | assumption | omega) (by assumption) (by omega) hw) q1180 q1182 qs9 q43 q1183 hdX3_start ⟨by decide, by decide⟩ hl.1 rfl rfl (Nat.le_of_ble_eq_true rfl) ⟨Nat.le_of_ble_eq_true rfl, Nat.le_of_ble_eq_true rfl⟩ hS (fun q e => Or.inl (Or.inl e)) (fun q z => Or.inr z) dX3_all_19 (fun rv_c_12 H_c_12 locs hp_c_12 k_c_12 hS => ?_)
    have kw := kw.then k_c_12 (fun q e _ => Or.inl e)
    have hK := hK.keep k_c_12 (fun q e => by have e : q = h := e; omega)
    obtain ⟨th_r_13, hth_r_13, rfl, hw_r_13⟩ := hp_c_12
    have hth_r_13 := hth_r_13.elim (fun z => z.2) (fun z => absurd trivial z.1)
    refine W.eq (g2 := F0 m 22 ls [.int (iI (b2i (0 < (th_r_13))))]) rfl ?_
    refine xi_ifb_eq (tgt := 27) hx hb dX3_all_22 (by decide) (fun c_22 => ?_) (fun c_22 => ?_)
    · skip
      obtain rfl : th_r_13 = 0 := by omega
      refine xi_iconst hx hb dX3_all_27 ?_
      refine lv_istore_n (lv' := [(2, .int (iI (0))), (0, .ref (h)), (1, .int (iI (how)))]) hx hb dX3_all_28 rfl hl (by decide) rfl (fun ls hl => ?_)
      refine xi_iconst hx hb dX3_all_29 ?_
      refine lv_istore_n (lv' := [(3, .int (iI (0))), (2, .int (iI (0))), (0, .ref (h)), (1, .int (iI (how)))]) hx hb dX3_all_30 rfl hl (by decide) rfl (fun ls hl => ?_)
      have L_31 : ∀ (n_ : Nat) (j : Int) (k : Int) (hj : 0 ≤ j ∧ j ≤ 8) (hk : k = cntZ (fun i => b2i ((becomeR (cc i) how).isSome = true)) j.toNat) (hh : 1 ≤ how ∧ how ≤ 5) (H_L31 : Heap) (locs : List Loc) (cells_31 slots_31 : Nat) (hcs_31 : cells_31 = (0) + j.toNat ∧ slots_31 = (0) + 3 * j.toNat) (kw : Keep (fun q => q = h ∨ q = mc) H0 H_L31) (hK : KH G s H_L31) (hS : va_S (xA (fun q => q = h ∨ q = mc) H0) H0 H_L31 locs) (hwl : MW G (h) (mc) (0) (ac) (no) (kn) (allC cc how j.toNat) H_L31) (hm_ : ((8 : Int) - j).toNat < n_) (ls : Array Slot) (hl : lv_has ls 5 [(3, .int (iI (j))), (2, .int (iI (k))), (0, .ref (h)), (1, .int (iI (how)))]), W p l e { frames := 5, cells := 8, slots := 24, locals := 114 } s m ([.ref (h), .int (iI (how))] : List Value).toArray below meth c H_L31 locs cells_31 slots_31 (MQ below (xQ (fun (rv : Option Value) (H1 : Heap) => ∃ z : Res, op_all ac no cc (how) = z ∧ rv = some (.int (iI z.2.1)) ∧ MW G h mc z.1 z.2.2.1 z.2.2.2.1 kn z.2.2.2.2 H1) (xA (fun q => q = h ∨ q = mc) H0)) ([.ref (h), .int (iI (how))] : List Value).toArray s 8 24 (xA (fun q => q = h ∨ q = mc) H0)) (F0 m 31 ls []) := by
        intro n_
        induction n_ with
        | zero =>
          intro j k hj hk hh H_L31 locs cells_31 slots_31 hcs_31 kw hK hS hwl hm_ ls hl
          exact absurd hm_ (Nat.not_lt_zero _)
        | succ n_ ih_31 =>
          intro j k hj hk hh H_L31 locs cells_31 slots_31 hcs_31 kw hK hS hwl hm_ ls hl
          refine lv_iload_n hx hb dX3_all_31 rfl (lv_at hl 0 rfl) ?_
          refine xi_bipush hx hb (by decide) dX3_all_32 ?_
          refine xi_icmp_ge (tgt := 74) hx hb dX3_all_34 (by decide) (by omega) (by omega) (fun c_34 => ?_) (fun c_34 => ?_)
          · skip
            refine lv_aload_n hx hb dX3_all_74 rfl (lv_at hl 2 rfl) ?_
            refine lv_dup hx hb dX3_all_75 rfl ?_
            have hw_o_14 := hwl
            obtain ⟨rb_o_14, hm_o_14, hq_o_14, hr_o_14, hza_o_14, hzc_o_14⟩ := hw_o_14
            refine x_get S hK in_X3 hm_o_14 rfl 1 (by decide) q1149 (fun x h => h) rfl dX3_all_76 ?_
            refine xi_iconst hx hb dX3_all_79 ?_
            refine xi_iadd hx hb dX3_all_80 ?_
            refine x_put S hK in_X3 tyX3 tyX3_ok nmX3 hm_o_14 rfl 1 (by decide) q1149 (fun x h => h) rfl rfl rfl (Nat.le_of_ble_eq_true rfl) hS (Or.inl (Or.inl rfl)) dX3_all_81 (fun H_p_15 locs hq_p_15 k_p_15 hz_p_15 hS => ?_)
            have kw := kw.then k_p_15 (fun q e _ => Or.inl e)
            have hK := hK.keep k_p_15 (fun q e => by have e : q = h := e; omega)
            have hq_o_14 := hq_o_14.keep k_p_15 (Ne.symm (ne_oa hK rfl rfl hm_o_14 hq_o_14))
            have hr_o_14 := hr_o_14.keep k_p_15 (fun j hj => (Ne.symm (ne_oa hK rfl rfl hm_o_14 (hr_o_14 j hj))))
            have hm_o_14 : MdAt G (h) (0) ((ac) + (1)) (no) (kn) (mc) H_p_15 := hq_p_15
            refine lv_iload_n hx hb dX3_all_84 rfl (lv_at hl 1 rfl) ?_
            refine x_ret1i hx hb hr hlk hH hS (by omega) (by omega) ?_ dX3_all_85
            first | (exfalso; omega) | exact ⟨(0, k, ac + 1, no, allC cc how j.toNat), (by unfold op_all; (repeat (first | with_reducible refine ifp (by omega) ?_ | with_reducible refine ifn (by omega) ?_)); rw [hk, show j.toNat = 8 by omega]), rfl, ⟨rb_o_14, hm_o_14, hq_o_14, hr_o_14, hza_o_14, hzc_o_14⟩⟩
          · skip
            refine lv_aload_n hx hb dX3_all_37 rfl (lv_at hl 2 rfl) ?_
            have hw_o_16 := hwl
            obtain ⟨rb_o_16, hm_o_16, hq_o_16, hr_o_16, hza_o_16, hzc_o_16⟩ := hw_o_16
            refine x_get S hK in_X3 hm_o_16 rfl 4 (by decide) q1152 (fun x h => h) rfl dX3_all_38 ?_
            refine lv_iload_n hx hb dX3_all_41 rfl (lv_at hl 0 rfl) ?_
            refine x_aald S hK 3 rfl rfl hq_o_16 (by omega) (by omega) rfl dX3_all_42 ?_
            have hr_w_17 := hr_o_16 (j).toNat (by omega)
            rw [all_n] at hr_w_17
            have hbw_w_17 := hbc (j).toNat (by omega)
            refine lv_iload_n hx hb dX3_all_43 rfl (lv_at hl 3 rfl) ?_
            refine x_c1S (as := [.ref ((rb_o_16) ((j).toNat)), .int (iI (how))]) (rest := []) S hK (c_X3_become l G H_L31 (cc (j).toNat) ((rb_o_16) ((j).toNat)) (how) (by omega) (by first | assumption | (apply hbc; omega)) hr_w_17) q1245 q1246 q43 q1247 hdX3_become ⟨by decide, by decide⟩ hl.1 rfl rfl (Nat.le_of_ble_eq_true rfl) ⟨(by show _ ≤ (8 : Nat); omega), (by show _ ≤ (24 : Nat); omega)⟩ hS (fun _ z => z.elim) (fun q z => Or.inr z) dX3_all_44 (fun rv_c_18 H_c_18 locs hp_c_18 k_c_18 hS => ?_)
            have kw := kw.then k_c_18 (fun q z _ => z.elim)
            have hK := hK.ext k_c_18
            have hwl := hwl.ext k_c_18
            have hm_o_16 := hm_o_16.ext k_c_18
            have hq_o_16 := hq_o_16.ext k_c_18
            have hr_o_16 := hr_o_16.ext k_c_18
            have hr_w_17 := hr_w_17.ext k_c_18
            rcases hp_c_18 with ⟨r_r_19, a_r_19, e_r_19, rfl, hq_r_19⟩ | ⟨e_r_19, rfl⟩
            · skip
              refine W.eq (g2 := F0 m 47 ls [.ref (a_r_19)]) rfl ?_
              refine lv_astore (lv' := [(4, .ref (a_r_19)), (3, .int (iI (j))), (2, .int (iI (k))), (0, .ref (h)), (1, .int (iI (how)))]) hx hb dX3_all_47 hl (by decide) rfl (fun ls hl => ?_)
              refine lv_aload hx hb dX3_all_49 (lv_at hl 0 rfl) ?_
              refine lv_ifnonnull (tgt := 57) hx hb dX3_all_51 (by decide) ?_
              refine xi_iinc (lv' := [(2, .int (iI (k + 1))), (4, .ref (a_r_19)), (3, .int (iI (j))), (0, .ref (h)), (1, .int (iI (how)))]) hx hb dX3_all_57 hl (k := 2) rfl (by decide) rfl (fun ls hl => ?_)
              refine lv_aload_n hx hb dX3_all_60 rfl (lv_at hl 3 rfl) ?_
              refine x_get S hK in_X3 hm_o_16 rfl 4 (by decide) q1152 (fun x h => h) rfl dX3_all_61 ?_
              refine lv_iload_n hx hb dX3_all_64 rfl (lv_at hl 2 rfl) ?_
              refine lv_aload hx hb dX3_all_65 (lv_at hl 1 rfl) ?_
              refine x_aastI S hK hq_o_16 hq_r_19 (by omega) (by omega) hS (Or.inl (Or.inr rfl)) dX3_all_67 (fun H_q_20 locs hq_q_20 k_q_20 hz_q_20 hS => ?_)
              have kw := kw.then k_q_20 (fun q e _ => Or.inr e)
              have hK := hK.keep k_q_20 (fun q e => by have e : q = mc := e; omega)
              have hm_o_16 := hm_o_16.keep k_q_20 (ne_oa hK rfl rfl hm_o_16 hq_o_16)
              have hr_o_16 := hr_o_16.keep k_q_20 (fun j hj => (ne_len (hr_o_16 j hj) hq_o_16 (Nat.ne_of_beq_eq_false rfl)))
              have hr_w_17 := hr_w_17.keep k_q_20 (ne_len hr_w_17 hq_o_16 (Nat.ne_of_beq_eq_false rfl))
              have hq_r_19 := hq_r_19.keep k_q_20 (ne_len hq_r_19 hq_o_16 (Nat.ne_of_beq_eq_false rfl))
              obtain ⟨rb_q_20, hq_o_16, hr_o_16⟩ := rows_put hq_q_20 hr_o_16 (hq_r_19) (by omega)
              refine xi_iinc (lv' := [(3, .int (iI (j + 1))), (2, .int (iI (k + 1))), (4, .ref (a_r_19)), (0, .ref (h)), (1, .int (iI (how)))]) hx hb dX3_all_68 hl (k := 2) rfl (by decide) rfl (fun ls hl => ?_)
              refine lv_goto (tgt := 31) hx hb dX3_all_71 (by decide) ?_
              exact ih_31 (j + 1) (k + 1) (by omega) (by (first | rfl | exact cnt_up hj.1 hk (by show 1 = b2i ((becomeR (cc j.toNat) how).isSome = true); rw [‹becomeR (cc j.toNat) how = some _›]; rfl) | (rw [← cnt_up (v := 0) hj.1 hk (by show 0 = b2i ((becomeR (cc j.toNat) how).isSome = true); rw [‹becomeR (cc j.toNat) how = none›]; rfl)]; omega))) (by omega) H_q_20 locs ((cells_31 + 1)) ((slots_31 + 3)) (by constructor <;> omega) kw hK hS (MW.c (all_s hj.1 (by assumption)) ⟨rb_q_20, hm_o_16, hq_o_16, hr_o_16, hza_o_16, hzc_o_16⟩) (by omega) ls (lv_sub hl [0, 1, 3, 4] rfl)
            · skip
              refine W.eq (g2 := F0 m 47 ls [.null]) rfl ?_
              refine lv_astoreN (lv' := [(4, .null), (3, .int (iI (j))), (2, .int (iI (k))), (0, .ref (h)), (1, .int (iI (how)))]) hx hb dX3_all_47 hl (by decide) rfl (fun ls hl => ?_)
              refine lv_aloadN hx hb dX3_all_49 (lv_at hl 0 rfl) ?_
              refine lv_ifnonnullN hx hb dX3_all_51 ?_
              refine lv_goto (tgt := 68) hx hb dX3_all_54 (by decide) ?_
              refine xi_iinc (lv' := [(3, .int (iI (j + 1))), (4, .null), (2, .int (iI (k))), (0, .ref (h)), (1, .int (iI (how)))]) hx hb dX3_all_68 hl (k := 1) rfl (by decide) rfl (fun ls hl => ?_)
              refine lv_goto (tgt := 31) hx hb dX3_all_71 (by decide) ?_
              exact ih_31 (j + 1) (k) (by omega) (by (first | rfl | exact cnt_up hj.1 hk (by show 1 = b2i ((becomeR (cc j.toNat) how).isSome = true); rw [‹becomeR (cc j.toNat) how = some _›]; rfl) | (rw [← cnt_up (v := 0) hj.1 hk (by show 0 = b2i ((becomeR (cc j.toNat) how).isSome = true); rw [‹becomeR (cc j.toNat) how = none›]; rfl)]; omega))) (by omega) H_c_18 locs ((cells_31 + 1)) ((slots_31 + 3)) (by constructor <;> omega) kw hK hS (MW.c (all_z hj.1 (by assumption)) ⟨rb_o_16, hm_o_16, hq_o_16, hr_o_16, hza_o_16, hzc_o_16⟩) (by omega) ls (lv_sub hl [0, 2, 3, 4] rfl)
      exact L_31 ((((8 : Int) - (0)).toNat) + 1) (0) (0) (by omega) (by (first | rfl | exact cnt_up hj.1 hk (by show 1 = b2i ((becomeR (cc j.toNat) how).isSome = true); rw [‹becomeR (cc j.toNat) how = some _›]; rfl) | (rw [← cnt_up (v := 0) hj.1 hk (by show 0 = b2i ((becomeR (cc j.toNat) how).isSome = true); rw [‹becomeR (cc j.toNat) how = none›]; rfl)]; omega))) (by omega) H_c_12 locs 0 0 (by constructor <;> omega) kw hK hS (MW.c all_0.symm hw_r_13) (by omega) ls (lv_sub hl [0, 1, 2, 3] rfl)
    · skip
      obtain rfl : th_r_13 = 1 := by omega
      refine xi_iconst hx hb dX3_all_25 ?_
      refine x_ret1i hx hb hr hlk hH hS (by omega) (by omega) ?_ dX3_all_26
      first | (exfalso; omega) | exact ⟨(_, _, _, _, _), (by unfold op_all; (repeat (first | with_reducible refine ifp (by omega) ?_ | with_reducible refine ifn (by omega) ?_)); first | rfl | exact comeF_s (by assumption) | exact comeF_n (by assumption) | exact comeF_s (if_pos (by omega)) | exact comeF_n (if_neg (by omega))), rfl, hw_r_13⟩

theorem hpX3_end : plainFor yX3_end = true := by decide +kernel
theorem hdX3_end : nMH yX3_end 2 := by decide +kernel
set_option maxHeartbeats 4000000 in
theorem c_X3_end (l : Launch) (G : GG) (H0 : Heap) (mc : Nat) (th : Int) (ac : Int) (no : Int) (kn : Int) (cc : Nat → Row) (h : Nat) (P : Prop) [Decidable P] (k : Int) (r_k : -2147483648 ≤ k ∧ k < 2147483648) (hac : 0 ≤ ac ∧ ac ≤ 1000) (hno : 0 ≤ no ∧ no ≤ 1000) (hkn : 0 ≤ kn ∧ kn ≤ 1000) (hok : ∀ k : Nat, k < 8 → okR (cc k)) (hw : MW G (h) (mc) (th) (ac) (no) (kn) (cc) H0) : Ct1 l G yX3_end cX3_end 4 (Option.some Jvm.ClassFile.FieldType.int) 3 0 0 65 [.ref (h), .int (iI (b2i (P))), .int (iI (k))] H0 (fun q => q = h ∨ q = mc) (fun (rv : Option Value) (H1 : Heap) => ∃ z : Res, op_end ac no cc (P) (k) = z ∧ rv = some (.int (iI z.2.1)) ∧ MW G h mc z.1 z.2.2.1 z.2.2.2.1 kn z.2.2.2.2 H1) := by
  refine Ct1.start hpX3_end (Nat.le_of_ble_eq_true rfl) ?_
  intro p e s m below meth c ls hx hb hr S hlk hname hH hK hS hl
  have hl : lv_has ls 4 [(0, .ref (h)), (1, .int (iI (b2i (P)))), (2, .int (iI (k)))] := hl
  have hbc : ∀ k : Nat, k < 8 → bRow (cc k) := fun k h => okR_b (hok k h)
  have kw : Keep (fun q => q = h ∨ q = mc) H0 H0 := Keep.rf
  have hz0 := hK.2.2.1
  refine lv_aload_n hx hb dX3_end_0 rfl (lv_at hl 0 rfl) ?_
  refine lv_iload_n hx hb dX3_end_1 rfl (lv_at hl 2 rfl) ?_
  refine x_c0S (as := [.int (iI (k))]) (rest := [.ref (h)]) S hK (c_X3_isNoCell l G H0 (k) (by first | omega | (have z_ : -2147483648 ≤ manyZ cc P i.toNat ∧ manyZ cc P i.toNat < 2147483648 := (by have := manyZ_r (c := cc) (P := P) i.toNat; omega); exact z_)) ) q1173 q1174 q43 q1175 hdX3_isNoCell ⟨by decide, by decide⟩ hl.1 rfl rfl (Nat.le_of_ble_eq_true rfl) ⟨Nat.le_of_ble_eq_true rfl, Nat.le_of_ble_eq_true rfl⟩ dX3_end_2 ?_
  refine xi_iconst hx hb dX3_end_5 ?_
  have hw_o_1 := hw
  obtain ⟨rb_o_1, hm_o_1, hq_o_1, hr_o_1, hza_o_1, hzc_o_1⟩ := hw_o_1
  refine x_c1V (as := [.int (iI (b2i (¬ (0 ≤ (k) ∧ (k) ≤ 7)))), .int (iI (1))]) (rest := []) S hK hm_o_1 rfl rfl (c_X3_start l G H0 (mc) (th) (ac) (no) (kn) (cc) (h) (¬ (0 ≤ (k) ∧ (k) ≤ 7)) (1) (by first | omega | (have z_ : -2147483648 ≤ manyZ cc P i.toNat ∧ manyZ cc P i.toNat < 2147483648 := (by have := manyZ_r (c := cc) (P := P) i.toNat; omega); exact z_)) (by first | assumption | omega) (by first | assumption | omega) (by first | assumption | omega) (by assumption) (by omega) hw) q1180 q1182 qs9 q43 q1183 hdX3_start ⟨by decide, by decide⟩ hl.1 rfl rfl (Nat.le_of_ble_eq_true rfl) ⟨Nat.le_of_ble_eq_true rfl, Nat.le_of_ble_eq_true rfl⟩ hS (fun q e => Or.inl (Or.inl e)) (fun q z => Or.inr z) dX3_end_6 (fun rv_c_2 H_c_2 locs hp_c_2 k_c_2 hS => ?_)
  have kw := kw.then k_c_2 (fun q e _ => Or.inl e)
  have hK := hK.keep k_c_2 (fun q e => by have e : q = h := e; omega)
  obtain ⟨th_r_3, hth_r_3, rfl, hw_r_3⟩ := hp_c_2
  refine W.eq (g2 := F0 m 9 ls [.int (iI (b2i (0 < (th_r_3))))]) rfl ?_
  refine xi_ifb_eq (tgt := 14) hx hb dX3_end_9 (by decide) (fun c_9 => ?_) (fun c_9 => ?_)
  · skip
    obtain rfl : th_r_3 = 0 := by omega
    refine xi_iconst hx hb dX3_end_14 ?_
    refine lv_istore_n (lv' := [(3, .int (iI (0))), (0, .ref (h)), (1, .int (iI (b2i (P)))), (2, .int (iI (k)))]) hx hb dX3_end_15 rfl hl (by decide) rfl (fun ls hl => ?_)
    have L_16 : ∀ (n_ : Nat) (i : Int) (hi : 0 ≤ i ∧ i ≤ 7) (hx1 : ∃ j : Nat, i.toNat ≤ j ∧ j < 8 ∧ manyZ cc P j = 0) (hx2 : endF cc P (8 - i.toNat) i.toNat = endF cc P 8 0) (hkk : 0 ≤ k ∧ k ≤ 7) (H_L16 : Heap) (locs : List Loc) (cells_16 slots_16 : Nat) (hcs_16 : cells_16 = 0 ∧ slots_16 = 0) (kw : Keep (fun q => q = h ∨ q = mc) H0 H_L16) (hK : KH G s H_L16) (hS : va_S (xA (fun q => q = h ∨ q = mc) H0) H0 H_L16 locs) (hwl : MW G (h) (mc) (0) (ac) (no) (kn) (cc) H_L16) (hm_ : ((8 : Int) - i).toNat < n_) (ls : Array Slot) (hl : lv_has ls 4 [(3, .int (iI (i))), (0, .ref (h)), (1, .int (iI (b2i (P)))), (2, .int (iI (k)))]), W p l e { frames := 3, cells := 0, slots := 0, locals := 65 } s m ([.ref (h), .int (iI (b2i (P))), .int (iI (k))] : List Value).toArray below meth c H_L16 locs cells_16 slots_16 (MQ below (xQ (fun (rv : Option Value) (H1 : Heap) => ∃ z : Res, op_end ac no cc (P) (k) = z ∧ rv = some (.int (iI z.2.1)) ∧ MW G h mc z.1 z.2.2.1 z.2.2.2.1 kn z.2.2.2.2 H1) (xA (fun q => q = h ∨ q = mc) H0)) ([.ref (h), .int (iI (b2i (P))), .int (iI (k))] : List Value).toArray s 0 0 (xA (fun q => q = h ∨ q = mc) H0)) (F0 m 16 ls []) := by
      intro n_
      induction n_ with
      | zero =>
        intro i hi hx1 hx2 hkk H_L16 locs cells_16 slots_16 hcs_16 kw hK hS hwl hm_ ls hl
        exact absurd hm_ (Nat.not_lt_zero _)
      | succ n_ ih_16 =>
        intro i hi hx1 hx2 hkk H_L16 locs cells_16 slots_16 hcs_16 kw hK hS hwl hm_ ls hl
        refine lv_aload_n hx hb dX3_end_16 rfl (lv_at hl 1 rfl) ?_
        refine lv_iload_n hx hb dX3_end_17 rfl (lv_at hl 0 rfl) ?_
        refine lv_iload_n hx hb dX3_end_18 rfl (lv_at hl 2 rfl) ?_
        have hw_o_4 := hwl
        obtain ⟨rb_o_4, hm_o_4, hq_o_4, hr_o_4, hza_o_4, hzc_o_4⟩ := hw_o_4
        refine x_c0V (as := [.int (iI (i)), .int (iI (b2i (P)))]) (rest := []) S hK hm_o_4 rfl rfl (c_X3_many l G H_L16 (mc) (0) (ac) (no) (kn) (cc) (h) (i) (P) (by first | omega | (have z_ : -2147483648 ≤ manyZ cc P i.toNat ∧ manyZ cc P i.toNat < 2147483648 := (by have := manyZ_r (c := cc) (P := P) i.toNat; omega); exact z_)) (by first | assumption | omega) (by first | assumption | omega) (by first | assumption | omega) (by assumption) (by omega) hwl) q1290 q1292 qs14 q43 q1293 hdX3_many ⟨by decide, by decide⟩ hl.1 rfl rfl (Nat.le_of_ble_eq_true rfl) ⟨(by show _ ≤ (0 : Nat); omega), (by show _ ≤ (0 : Nat); omega)⟩ dX3_end_19 ?_
        refine xi_if_le (tgt := 31) hx hb dX3_end_22 (by decide) (by first | omega | (have z_ : -2147483648 ≤ manyZ cc P i.toNat ∧ manyZ cc P i.toNat < 2147483648 := (by have := manyZ_r (c := cc) (P := P) i.toNat; omega); exact z_)) (fun c_22 => ?_) (fun c_22 => ?_)
        · skip
          refine lv_aload_n hx hb dX3_end_31 rfl (lv_at hl 1 rfl) ?_
          refine lv_iload_n hx hb dX3_end_32 rfl (lv_at hl 3 rfl) ?_
          refine lv_aload_n hx hb dX3_end_33 rfl (lv_at hl 1 rfl) ?_
          refine x_get S hK in_X3 hm_o_4 rfl 4 (by decide) q1152 (fun x h => h) rfl dX3_end_34 ?_
          refine lv_iload_n hx hb dX3_end_37 rfl (lv_at hl 0 rfl) ?_
          refine x_aald S hK 3 rfl rfl hq_o_4 (by first | omega | (have z_ : -2147483648 ≤ manyZ cc P i.toNat ∧ manyZ cc P i.toNat < 2147483648 := (by have := manyZ_r (c := cc) (P := P) i.toNat; omega); exact z_)) (by first | omega | (have z_ : -2147483648 ≤ manyZ cc P i.toNat ∧ manyZ cc P i.toNat < 2147483648 := (by have := manyZ_r (c := cc) (P := P) i.toNat; omega); exact z_)) rfl dX3_end_38 ?_
          have hr_w_5 := hr_o_4 (i).toNat (by omega)
          have hbw_w_5 := hbc (i).toNat (by omega)
          refine x_c1V (as := [.int (iI (k)), .ref ((rb_o_4) ((i).toNat))]) (rest := []) S hK hm_o_4 rfl rfl (c_X3_come l G H_L16 (mc) (0) (ac) (no) (kn) (cc) (cc (i).toNat) (h) (k) ((rb_o_4) ((i).toNat)) (by first | omega | (have z_ : -2147483648 ≤ manyZ cc P i.toNat ∧ manyZ cc P i.toNat < 2147483648 := (by have := manyZ_r (c := cc) (P := P) i.toNat; omega); exact z_)) (by first | assumption | omega) (by first | assumption | omega) (by first | assumption | omega) (by assumption) (by omega) (by first | assumption | exact okR_b (by assumption) | exact bRow_mk (by omega) (by omega) | (apply hbc; omega) | exact bRow_b (by omega) | exact bRow_t (by omega) | omega) hwl hr_w_5) q1190 q1192 qs11 q43 q1193 hdX3_come ⟨by decide, by decide⟩ hl.1 rfl rfl (Nat.le_of_ble_eq_true rfl) ⟨(by show _ ≤ (0 : Nat); omega), (by show _ ≤ (0 : Nat); omega)⟩ hS (fun q z => Or.inl z) (fun q z => Or.inr z) dX3_end_39 (fun rv_c_6 H_c_6 locs hp_c_6 k_c_6 hS => ?_)
          have kw := kw.then k_c_6 (fun q e _ => e)
          have hK := hK.keep k_c_6 (fun q e => by have e : q = h ∨ q = mc := e; omega)
          obtain ⟨rfl, hw_r_7⟩ := hp_c_6
          refine W.eq (g2 := F0 m 42 ls [.int (iI (b2i (¬ alikeR ((cc) (k).toNat) (cc (i).toNat))))]) rfl ?_
          refine x_ret1i hx hb hr hlk hH hS (by omega) (by omega) ?_ dX3_end_42
          first | (exfalso; omega) | exact ⟨(_, _, _, _, _), (by unfold op_end; (repeat (first | with_reducible refine ifp (by omega) ?_ | with_reducible refine ifn (by omega) ?_)); first | rfl | exact comeF_s (by assumption) | exact comeF_n (by assumption) | exact comeF_s (if_pos (by omega)) | exact comeF_n (if_neg (by omega)) | (rw [show endF cc P 8 0 = i.toNat from (by rw [← hx2, endF_s (i := i.toNat) (by omega), if_pos (by have ce_ : manyZ cc P i.toNat ≤ 0 := c_22; have := manyZ_r (c := cc) (P := P) i.toNat; omega)])]; exact comeF_s rfl)), rfl, hw_r_7⟩
        · skip
          refine xi_iinc (lv' := [(3, .int (iI (i + 1))), (0, .ref (h)), (1, .int (iI (b2i (P)))), (2, .int (iI (k)))]) hx hb dX3_end_25 hl (k := 0) rfl (by decide) rfl (fun ls hl => ?_)
          refine lv_goto (tgt := 16) hx hb dX3_end_28 (by decide) ?_
          exact ih_16 (i + 1) (by (first | omega | (obtain ⟨j_, a_, b_, d_⟩ := hx1; have ce_ : 0 < manyZ cc P i.toNat := c_22; have ej_ : j_ ≠ i.toNat := (fun z => by rw [z] at d_; omega); omega))) (by (first | (obtain ⟨j_, a_, b_, d_⟩ := hx1; have ce_ : 0 < manyZ cc P i.toNat := c_22; have ej_ : j_ ≠ i.toNat := (fun z => by rw [z] at d_; omega); exact ⟨j_, by omega, b_, d_⟩) | (obtain ⟨j_, b_, d_⟩ := many_ex hok P; exact ⟨j_, by omega, b_, d_⟩))) (by (first | rfl | (have ce_ : 0 < manyZ cc P i.toNat := c_22; rw [← hx2, endF_s (i := i.toNat) (by omega), if_neg (by omega), show (i + 1).toNat = i.toNat + 1 by omega]))) (by omega) H_L16 locs (cells_16) (slots_16) (by constructor <;> omega) kw hK hS hwl (by omega) ls (lv_sub hl [0, 1, 2, 3] rfl)
    exact L_16 ((((8 : Int) - (0)).toNat) + 1) (0) (by (first | omega | (obtain ⟨j_, a_, b_, d_⟩ := hx1; have ce_ : 0 < manyZ cc P i.toNat := c_22; have ej_ : j_ ≠ i.toNat := (fun z => by rw [z] at d_; omega); omega))) (by (first | (obtain ⟨j_, a_, b_, d_⟩ := hx1; have ce_ : 0 < manyZ cc P i.toNat := c_22; have ej_ : j_ ≠ i.toNat := (fun z => by rw [z] at d_; omega); exact ⟨j_, by omega, b_, d_⟩) | (obtain ⟨j_, b_, d_⟩ := many_ex hok P; exact ⟨j_, by omega, b_, d_⟩))) (by (first | rfl | (have ce_ : 0 < manyZ cc P i.toNat := c_22; rw [← hx2, endF_s (i := i.toNat) (by omega), if_neg (by omega), show (i + 1).toNat = i.toNat + 1 by omega]))) (by omega) H_c_2 locs 0 0 (by constructor <;> omega) kw hK hS hw_r_3 (by omega) ls (lv_sub hl [0, 1, 2, 3] rfl)
  · skip
    obtain rfl : th_r_3 = 1 := by omega
    refine xi_iconst hx hb dX3_end_12 ?_
    refine x_ret1i hx hb hr hlk hH hS (by omega) (by omega) ?_ dX3_end_13
    first | (exfalso; omega) | exact ⟨(_, _, _, _, _), (by unfold op_end; (repeat (first | with_reducible refine ifp (by omega) ?_ | with_reducible refine ifn (by omega) ?_)); first | rfl | exact comeF_s (by assumption) | exact comeF_n (by assumption) | exact comeF_s (if_pos (by omega)) | exact comeF_n (if_neg (by omega)) | (rw [show endF cc P 8 0 = i.toNat from (by rw [← hx2, endF_s (i := i.toNat) (by omega), if_pos (by have ce_ : manyZ cc P i.toNat ≤ 0 := c_22; have := manyZ_r (c := cc) (P := P) i.toNat; omega)])]; exact comeF_s rfl)), rfl, hw_r_3⟩

