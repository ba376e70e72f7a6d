set_option maxRecDepth 100000
theorem hpX3_sort : plainFor yX3_sort = true := by decide +kernel
theorem hdX3_sort : nMH yX3_sort 0 := by decide +kernel
set_option maxHeartbeats 4000000 in
theorem c_X3_sort (l : Launch) (G : GG) (H0 : Heap) (mc : Nat) (th : Int) (ac : Int) (no : Int) (kn : Int) (cc : Nat → Row) (h : Nat) (hac : 0 ≤ ac ∧ ac ≤ 1000) (hno : 0 ≤ no ∧ no ≤ 1000) (hkn : 0 ≤ kn ∧ kn ≤ 1000) (hok : ∀ k : Nat, k < 8 → okR (cc k)) (hw : MW G (h) (mc) (th) (ac) (no) (kn) (cc) H0) : Ct1 l G yX3_sort cX3_sort 5 (Option.some Jvm.ClassFile.FieldType.int) 3 1 8 65 [.ref (h)] H0 (fun q => q = h ∨ q = mc) (fun (rv : Option Value) (H1 : Heap) => ∃ z : Res, op_sort ac no cc  = z ∧ rv = some (.int (iI z.2.1)) ∧ MW G h mc z.1 z.2.2.1 z.2.2.2.1 kn z.2.2.2.2 H1) := by
  refine Ct1.start hpX3_sort (Nat.le_of_ble_eq_true rfl) ?_
  intro p e s m below meth c ls hx hb hr S hlk hname hH hK hS hl
  have hl : lv_has ls 5 [(0, .ref (h))] := hl
  have hbc : ∀ k : Nat, k < 8 → bRow (cc k) := fun k h => okR_b (hok k h)
  have hml_ := MW.mlt hw
  have kw : Keep (fun q => q = h ∨ q = mc) H0 H0 := Keep.rf
  have hz0 := hK.2.2.1
  refine lv_aload_n hx hb dX3_sort_0 rfl (lv_at hl 0 rfl) ?_
  refine xi_iconst hx hb dX3_sort_1 ?_
  have hw_o_1 := hw
  obtain ⟨rb_o_1, hm_o_1, hq_o_1, hr_o_1, hza_o_1, hzc_o_1⟩ := hw_o_1
  refine x_put S hK in_X3 tyX3 tyX3_ok nmX3 hm_o_1 rfl 0 (by decide) q1148 (fun x h => h) rfl rfl rfl (Nat.le_of_ble_eq_true rfl) hS (Or.inl (Or.inl rfl)) dX3_sort_2 (fun H_p_2 locs hq_p_2 k_p_2 hz_p_2 hS => ?_)
  have kw := kw.then k_p_2 (fun q e _ => Or.inl e)
  have hK := hK.keep k_p_2 (fun q e => by have e : q = h := e; omega)
  have hq_o_1 := hq_o_1.keep k_p_2 (Ne.symm (ne_oa hK rfl rfl hm_o_1 hq_o_1))
  have hr_o_1 := hr_o_1.keep k_p_2 (fun j hj => (Ne.symm (ne_oa hK rfl rfl hm_o_1 (hr_o_1 j hj))))
  have hm_o_1 : MdAt G (h) (0) (ac) (no) (kn) (mc) H_p_2 := hq_p_2
  refine xi_bipush hx hb (by decide) dX3_sort_5 ?_
  refine x_anewI S hK q1137 (by omega) ⟨Nat.le_of_ble_eq_true rfl, Nat.le_of_ble_eq_true rfl⟩ hS dX3_sort_7 (fun a_n_3 H_n_3 ha_n_3 hq_n_3 k_n_3 hS => ?_)
  have hge_n_3 : H0.size ≤ a_n_3 := by rw [ha_n_3]; exact kw.1
  have sn_n_3_hm_o_1 := hm_o_1
  have sn_n_3_hq_o_1 := hq_o_1
  have sn_n_3_hr_o_1 := hr_o_1
  have kb_n_3 : Keep noW H_p_2 H_p_2 := Keep.rf
  have kw := kw.then k_n_3 (fun q z _ => z.elim)
  have hK := hK.ext k_n_3
  have kb_n_3 := kb_n_3.trans k_n_3
  have hm_o_1 := hm_o_1.ext k_n_3
  have hq_o_1 := hq_o_1.ext k_n_3
  have hr_o_1 := hr_o_1.ext k_n_3
  have hq_n_3 : TArr G a_n_3 (fun _ => False) (sortZ cc) H_n_3 := TArr.new hq_n_3
  refine lv_astore_n (lv' := [(1, .ref (a_n_3)), (0, .ref (h))]) hx hb dX3_sort_10 rfl hl (by decide) rfl (fun ls hl => ?_)
  refine xi_iconst hx hb dX3_sort_11 ?_
  refine lv_istore_n (lv' := [(2, .int (iI (0))), (1, .ref (a_n_3)), (0, .ref (h))]) hx hb dX3_sort_12 rfl hl (by decide) rfl (fun ls hl => ?_)
  have L_13 : ∀ (n_ : Nat) (qq : Nat) (i : Int) (hj : 0 ≤ i ∧ i ≤ 8) (hq2 : H0.size ≤ qq) (H_L13 : Heap) (locs : List Loc) (cells_13 slots_13 : Nat) (hcs_13 : cells_13 = 1 ∧ slots_13 = 8) (kw : Keep (fun q => q = h ∨ q = mc) H0 H_L13) (hK : KH G s H_L13) (hS : va_S (xA (fun q => q = h ∨ q = mc) H0) H0 H_L13 locs) (hwl : MW G (h) (mc) (0) (ac) (no) (kn) (cc) H_L13) (hta : TArr G (qq) (fun k => ∃ x : Nat, x < i.toNat ∧ (plcZ cc x).toNat = k) (sortZ cc) H_L13) (hm_ : ((8 : Int) - i).toNat < n_) (ls : Array Slot) (hl : lv_has ls 5 [(2, .int (iI (i))), (1, .ref (qq)), (0, .ref (h))]), W p l e { frames := 3, cells := 1, slots := 8, locals := 65 } s m ([.ref (h)] : List Value).toArray below meth c H_L13 locs cells_13 slots_13 (MQ below (xQ (fun (rv : Option Value) (H1 : Heap) => ∃ z : Res, op_sort ac no cc  = z ∧ rv = some (.int (iI z.2.1)) ∧ MW G h mc z.1 z.2.2.1 z.2.2.2.1 kn z.2.2.2.2 H1) (xA (fun q => q = h ∨ q = mc) H0)) ([.ref (h)] : List Value).toArray s 1 8 (xA (fun q => q = h ∨ q = mc) H0)) (F0 m 13 ls []) := by
    intro n_
    induction n_ with
    | zero =>
      intro qq i hj hq2 H_L13 locs cells_13 slots_13 hcs_13 kw hK hS hwl hta hm_ ls hl
      exact absurd hm_ (Nat.not_lt_zero _)
    | succ n_ ih_13 =>
      intro qq i hj hq2 H_L13 locs cells_13 slots_13 hcs_13 kw hK hS hwl hta hm_ ls hl
      have L_29 : ∀ (n_ : Nat) (o : Int) (pl : Int) (ho : 0 ≤ o ∧ o ≤ i ∧ i < 8) (hpl : pl = cntZ (fun x => b2i (aheadR (cc x) (cc i.toNat))) 8 + cntZ (fun x => b2i (¬ aheadR (cc x) (cc i.toNat) ∧ ¬ aheadR (cc i.toNat) (cc x))) o.toNat) (H_L29 : Heap) (locs : List Loc) (cells_29 slots_29 : Nat) (hcs_29 : cells_29 = cells_13 ∧ slots_29 = slots_13) (kw : Keep (fun q => q = h ∨ q = mc) H0 H_L29) (hK : KH G s H_L29) (hS : va_S (xA (fun q => q = h ∨ q = mc) H0) H0 H_L29 locs) (hwl : MW G (h) (mc) (0) (ac) (no) (kn) (cc) H_L29) (hta : TArr G (qq) (fun k => ∃ x : Nat, x < i.toNat ∧ (plcZ cc x).toNat = k) (sortZ cc) H_L29) (hm_ : (i - o).toNat < n_) (ls : Array Slot) (hl : lv_has ls 5 [(4, .int (iI (o))), (3, .int (iI (pl))), (2, .int (iI (i))), (1, .ref (qq)), (0, .ref (h))]), W p l e { frames := 3, cells := 1, slots := 8, locals := 65 } s m ([.ref (h)] : List Value).toArray below meth c H_L29 locs cells_29 slots_29 (MQ below (xQ (fun (rv : Option Value) (H1 : Heap) => ∃ z : Res, op_sort ac no cc  = z ∧ rv = some (.int (iI z.2.1)) ∧ MW G h mc z.1 z.2.2.1 z.2.2.2.1 kn z.2.2.2.2 H1) (xA (fun q => q = h ∨ q = mc) H0)) ([.ref (h)] : List Value).toArray s 1 8 (xA (fun q => q = h ∨ q = mc) H0)) (F0 m 29 ls []) := by
        intro n_
        induction n_ with
        | zero =>
          intro o pl ho hpl H_L29 locs cells_29 slots_29 hcs_29 kw hK hS hwl hta hm_ ls hl
          exact absurd hm_ (Nat.not_lt_zero _)
        | succ n_ ih_29 =>
          intro o pl ho hpl H_L29 locs cells_29 slots_29 hcs_29 kw hK hS hwl hta hm_ ls hl
          refine lv_iload hx hb dX3_sort_29 (lv_at hl 0 rfl) ?_
          refine lv_iload_n hx hb dX3_sort_31 rfl (lv_at hl 2 rfl) ?_
          refine xi_icmp_ge (tgt := 90) hx hb dX3_sort_32 (by decide) (by omega) (by omega) (fun c_32 => ?_) (fun c_32 => ?_)
          · skip
            have hpl_ : pl = plcZ cc i.toNat := by rw [hpl, show o.toNat = i.toNat by omega]; exact plcZ_two hok (by omega)
            have hpr_ := plcZ_r (c := cc) (i := i.toNat) (by omega)
            refine lv_aload_n hx hb dX3_sort_90 rfl (lv_at hl 3 rfl) ?_
            refine lv_iload_n hx hb dX3_sort_91 rfl (lv_at hl 1 rfl) ?_
            refine lv_aload_n hx hb dX3_sort_92 rfl (lv_at hl 4 rfl) ?_
            have hw_o_4 := hwl
            obtain ⟨rb_o_4, hm_o_4, hq_o_4, hr_o_4, hza_o_4, hzc_o_4⟩ := hw_o_4
            refine x_get S hK in_X3 hm_o_4 rfl 4 (by decide) q1152 (fun x h => h) rfl dX3_sort_93 ?_
            refine lv_iload_n hx hb dX3_sort_96 rfl (lv_at hl 2 rfl) ?_
            refine x_aald S hK 3 rfl rfl hq_o_4 (by omega) (by omega) rfl dX3_sort_97 ?_
            have hr_w_5 := hr_o_4 (i).toNat (by omega)
            have hbw_w_5 := hbc (i).toNat (by omega)
            obtain ⟨f_t_6, hf_t_6, hp_t_6⟩ := hta
            have hv_t_6 : RowAt G ((rb_o_4) ((i).toNat)) ((sortZ cc) (pl).toNat) H_L29 := by rw [hpl_, sortZ_at (by omega)]; exact hr_w_5
            refine x_aastI S hK hf_t_6 hr_w_5 (by omega) (by omega) hS (Or.inr (by omega)) dX3_sort_98 (fun H_t_6 locs hq_t_6 k_t_6 hz_t_6 hS => ?_)
            have hn_t_6 := TArr.put hf_t_6 hp_t_6 k_t_6 hq_t_6 hv_t_6
            have kw := kw.then k_t_6 (fun q e hlt => by have e : q = qq := e; exact absurd hlt (by omega))
            have hK := hK.keep k_t_6 (fun q e => by have e : q = qq := e; omega)
            have hwl := hwl.keepT hK k_t_6 hf_t_6 rfl (by omega)
            have hm_o_4 := hm_o_4.keep k_t_6 (ne_oa hK rfl rfl hm_o_4 hf_t_6)
            have hq_o_4 := hq_o_4.keep k_t_6 (show mc ≠ qq by omega)
            have hr_o_4 := hr_o_4.keep k_t_6 (fun j hj => (ne_len (hr_o_4 j hj) hf_t_6 (Nat.ne_of_beq_eq_false rfl)))
            have hr_w_5 := hr_w_5.keep k_t_6 (ne_len hr_w_5 hf_t_6 (Nat.ne_of_beq_eq_false rfl))
            refine xi_iinc (lv' := [(2, .int (iI (i + 1))), (4, .int (iI (o))), (3, .int (iI (pl))), (1, .ref (qq)), (0, .ref (h))]) hx hb dX3_sort_99 hl (k := 2) rfl (by decide) rfl (fun ls hl => ?_)
            refine lv_goto (tgt := 13) hx hb dX3_sort_102 (by decide) ?_
            exact ih_13 (qq) (i + 1) (by omega) (by omega) H_t_6 locs (cells_29) (slots_29) (by constructor <;> omega) kw hK hS (⟨rb_o_4, hm_o_4, hq_o_4, hr_o_4, hza_o_4, hzc_o_4⟩) (TArr.c (fun k _ (z : ∃ x : Nat, x < (i + 1).toNat ∧ (plcZ cc x).toNat = k) => by obtain ⟨x, x1, x2⟩ := z; by_cases xq : x < i.toNat; exact Or.inl ⟨x, xq, x2⟩; refine Or.inr ?_; rw [← x2, hpl_, show x = i.toNat by omega]) hn_t_6) (by omega) ls (lv_sub hl [0, 3, 4] rfl)
          · skip
            refine lv_iload_n hx hb dX3_sort_35 rfl (lv_at hl 1 rfl) ?_
            refine lv_aload_n hx hb dX3_sort_36 rfl (lv_at hl 4 rfl) ?_
            have hw_o_7 := hwl
            obtain ⟨rb_o_7, hm_o_7, hq_o_7, hr_o_7, hza_o_7, hzc_o_7⟩ := hw_o_7
            refine x_get S hK in_X3 hm_o_7 rfl 4 (by decide) q1152 (fun x h => h) rfl dX3_sort_37 ?_
            refine lv_iload hx hb dX3_sort_40 (lv_at hl 0 rfl) ?_
            refine x_aald S hK 3 rfl rfl hq_o_7 (by omega) (by omega) rfl dX3_sort_42 ?_
            have hr_w_8 := hr_o_7 (o).toNat (by omega)
            have hbw_w_8 := hbc (o).toNat (by omega)
            refine lv_aload_n hx hb dX3_sort_43 rfl (lv_at hl 4 rfl) ?_
            refine x_get S hK in_X3 hm_o_7 rfl 4 (by decide) q1152 (fun x h => h) rfl dX3_sort_44 ?_
            refine lv_iload_n hx hb dX3_sort_47 rfl (lv_at hl 2 rfl) ?_
            refine x_aald S hK 3 rfl rfl hq_o_7 (by omega) (by omega) rfl dX3_sort_48 ?_
            have hr_w_9 := hr_o_7 (i).toNat (by omega)
            have hbw_w_9 := hbc (i).toNat (by omega)
            refine x_c0S (as := [.ref ((rb_o_7) ((o).toNat)), .ref ((rb_o_7) ((i).toNat))]) (rest := [.int (iI (pl))]) S hK (c_X3_isAhead l G H_L29 (cc (o).toNat) (cc (i).toNat) ((rb_o_7) ((o).toNat)) ((rb_o_7) ((i).toNat)) (by first | assumption | (apply hbc; omega)) (by first | assumption | (apply hbc; omega)) hr_w_8 hr_w_9) q1294 q1295 q43 q1296 hdX3_isAhead ⟨by decide, by decide⟩ hl.1 rfl rfl (Nat.le_of_ble_eq_true rfl) ⟨(by show _ ≤ (1 : Nat); omega), (by show _ ≤ (8 : Nat); omega)⟩ dX3_sort_49 ?_
            refine xi_ifb_ne (tgt := 78) hx hb dX3_sort_52 (by decide) (fun c_52 => ?_) (fun c_52 => ?_)
            · skip
              refine xi_iconst hx hb dX3_sort_78 ?_
              refine x_c0S (as := [.int (iI (0))]) (rest := [.int (iI (pl))]) S hK (c_X3_one l G H_L29 (False)  ) q1145 q1146 q43 q1147 hdX3_one ⟨by decide, by decide⟩ hl.1 rfl rfl (Nat.le_of_ble_eq_true rfl) ⟨(by show _ ≤ (1 : Nat); omega), (by show _ ≤ (8 : Nat); omega)⟩ dX3_sort_79 ?_
              refine xi_iadd hx hb dX3_sort_82 ?_
              refine lv_istore_n (lv' := [(3, .int (iI ((pl) + (b2i (False))))), (4, .int (iI (o))), (2, .int (iI (i))), (1, .ref (qq)), (0, .ref (h))]) hx hb dX3_sort_83 rfl hl (by decide) rfl (fun ls hl => ?_)
              refine xi_iinc (lv' := [(4, .int (iI (o + 1))), (3, .int (iI ((pl) + (b2i (False))))), (2, .int (iI (i))), (1, .ref (qq)), (0, .ref (h))]) hx hb dX3_sort_84 hl (k := 1) rfl (by decide) rfl (fun ls hl => ?_)
              refine lv_goto (tgt := 29) hx hb dX3_sort_87 (by decide) ?_
              exact ih_29 (o + 1) ((pl) + (b2i (False))) (by omega) (by (first | (rw [if_neg id]; exact (Int.add_zero _).symm) | (rw [cntZ_s ho.1, hpl, Int.add_assoc]; congr 1; congr 1; show b2i _ = b2i (¬ aheadR (cc o.toNat) (cc i.toNat) ∧ ¬ aheadR (cc i.toNat) (cc o.toNat)); first | exact (b2i_1 trivial).trans (b2i_1 ⟨c_52, c_71⟩).symm | (have w_ : ¬ (¬ aheadR (cc o.toNat) (cc i.toNat) ∧ ¬ aheadR (cc i.toNat) (cc o.toNat)) := (fun z => z.1 c_52); exact (b2i_0 id).trans (b2i_0 w_).symm) | (have w_ : ¬ (¬ aheadR (cc o.toNat) (cc i.toNat) ∧ ¬ aheadR (cc i.toNat) (cc o.toNat)) := (fun z => z.2 c_71); exact (b2i_0 id).trans (b2i_0 w_).symm)))) H_L29 locs (cells_29) (slots_29) (by constructor <;> omega) kw hK hS (⟨rb_o_7, hm_o_7, hq_o_7, hr_o_7, hza_o_7, hzc_o_7⟩) hta (by omega) ls (lv_sub hl [0, 1, 2, 3, 4] rfl)
            · skip
              refine lv_aload_n hx hb dX3_sort_55 rfl (lv_at hl 4 rfl) ?_
              refine x_get S hK in_X3 hm_o_7 rfl 4 (by decide) q1152 (fun x h => h) rfl dX3_sort_56 ?_
              refine lv_iload_n hx hb dX3_sort_59 rfl (lv_at hl 2 rfl) ?_
              refine x_aald S hK 3 rfl rfl hq_o_7 (by omega) (by omega) rfl dX3_sort_60 ?_
              refine lv_aload_n hx hb dX3_sort_61 rfl (lv_at hl 4 rfl) ?_
              refine x_get S hK in_X3 hm_o_7 rfl 4 (by decide) q1152 (fun x h => h) rfl dX3_sort_62 ?_
              refine lv_iload hx hb dX3_sort_65 (lv_at hl 0 rfl) ?_
              refine x_aald S hK 3 rfl rfl hq_o_7 (by omega) (by omega) rfl dX3_sort_67 ?_
              refine x_c0S (as := [.ref ((rb_o_7) ((i).toNat)), .ref ((rb_o_7) ((o).toNat))]) (rest := [.int (iI (pl))]) S hK (c_X3_isAhead l G H_L29 (cc (i).toNat) (cc (o).toNat) ((rb_o_7) ((i).toNat)) ((rb_o_7) ((o).toNat)) (by first | assumption | (apply hbc; omega)) (by first | assumption | (apply hbc; omega)) hr_w_9 hr_w_8) q1294 q1295 q43 q1296 hdX3_isAhead ⟨by decide, by decide⟩ hl.1 rfl rfl (Nat.le_of_ble_eq_true rfl) ⟨(by show _ ≤ (1 : Nat); omega), (by show _ ≤ (8 : Nat); omega)⟩ dX3_sort_68 ?_
              refine xi_ifb_ne (tgt := 78) hx hb dX3_sort_71 (by decide) (fun c_71 => ?_) (fun c_71 => ?_)
              · skip
                refine xi_iconst hx hb dX3_sort_78 ?_
                refine x_c0S (as := [.int (iI (0))]) (rest := [.int (iI (pl))]) S hK (c_X3_one l G H_L29 (False)  ) q1145 q1146 q43 q1147 hdX3_one ⟨by decide, by decide⟩ hl.1 rfl rfl (Nat.le_of_ble_eq_true rfl) ⟨(by show _ ≤ (1 : Nat); omega), (by show _ ≤ (8 : Nat); omega)⟩ dX3_sort_79 ?_
                refine xi_iadd hx hb dX3_sort_82 ?_
                refine lv_istore_n (lv' := [(3, .int (iI ((pl) + (b2i (False))))), (4, .int (iI (o))), (2, .int (iI (i))), (1, .ref (qq)), (0, .ref (h))]) hx hb dX3_sort_83 rfl hl (by decide) rfl (fun ls hl => ?_)
                refine xi_iinc (lv' := [(4, .int (iI (o + 1))), (3, .int (iI ((pl) + (b2i (False))))), (2, .int (iI (i))), (1, .ref (qq)), (0, .ref (h))]) hx hb dX3_sort_84 hl (k := 1) rfl (by decide) rfl (fun ls hl => ?_)
                refine lv_goto (tgt := 29) hx hb dX3_sort_87 (by decide) ?_
                exact ih_29 (o + 1) ((pl) + (b2i (False))) (by omega) (by (first | (rw [if_neg id]; exact (Int.add_zero _).symm) | (rw [cntZ_s ho.1, hpl, Int.add_assoc]; congr 1; congr 1; show b2i _ = b2i (¬ aheadR (cc o.toNat) (cc i.toNat) ∧ ¬ aheadR (cc i.toNat) (cc o.toNat)); first | exact (b2i_1 trivial).trans (b2i_1 ⟨c_52, c_71⟩).symm | (have w_ : ¬ (¬ aheadR (cc o.toNat) (cc i.toNat) ∧ ¬ aheadR (cc i.toNat) (cc o.toNat)) := (fun z => z.1 c_52); exact (b2i_0 id).trans (b2i_0 w_).symm) | (have w_ : ¬ (¬ aheadR (cc o.toNat) (cc i.toNat) ∧ ¬ aheadR (cc i.toNat) (cc o.toNat)) := (fun z => z.2 c_71); exact (b2i_0 id).trans (b2i_0 w_).symm)))) H_L29 locs (cells_29) (slots_29) (by constructor <;> omega) kw hK hS (⟨rb_o_7, hm_o_7, hq_o_7, hr_o_7, hza_o_7, hzc_o_7⟩) hta (by omega) ls (lv_sub hl [0, 1, 2, 3, 4] rfl)
              · skip
                refine xi_iconst hx hb dX3_sort_74 ?_
                refine lv_goto (tgt := 79) hx hb dX3_sort_75 (by decide) ?_
                refine x_c0S (as := [.int (iI (1))]) (rest := [.int (iI (pl))]) S hK (c_X3_one l G H_L29 (True)  ) q1145 q1146 q43 q1147 hdX3_one ⟨by decide, by decide⟩ hl.1 rfl rfl (Nat.le_of_ble_eq_true rfl) ⟨(by show _ ≤ (1 : Nat); omega), (by show _ ≤ (8 : Nat); omega)⟩ dX3_sort_79 ?_
                refine xi_iadd hx hb dX3_sort_82 ?_
                refine lv_istore_n (lv' := [(3, .int (iI ((pl) + (b2i (True))))), (4, .int (iI (o))), (2, .int (iI (i))), (1, .ref (qq)), (0, .ref (h))]) hx hb dX3_sort_83 rfl hl (by decide) rfl (fun ls hl => ?_)
                refine xi_iinc (lv' := [(4, .int (iI (o + 1))), (3, .int (iI ((pl) + (b2i (True))))), (2, .int (iI (i))), (1, .ref (qq)), (0, .ref (h))]) hx hb dX3_sort_84 hl (k := 1) rfl (by decide) rfl (fun ls hl => ?_)
                refine lv_goto (tgt := 29) hx hb dX3_sort_87 (by decide) ?_
                exact ih_29 (o + 1) ((pl) + (b2i (True))) (by omega) (by (first | (rw [if_neg id]; exact (Int.add_zero _).symm) | (rw [cntZ_s ho.1, hpl, Int.add_assoc]; congr 1; congr 1; show b2i _ = b2i (¬ aheadR (cc o.toNat) (cc i.toNat) ∧ ¬ aheadR (cc i.toNat) (cc o.toNat)); first | exact (b2i_1 trivial).trans (b2i_1 ⟨c_52, c_71⟩).symm | (have w_ : ¬ (¬ aheadR (cc o.toNat) (cc i.toNat) ∧ ¬ aheadR (cc i.toNat) (cc o.toNat)) := (fun z => z.1 c_52); exact (b2i_0 id).trans (b2i_0 w_).symm) | (have w_ : ¬ (¬ aheadR (cc o.toNat) (cc i.toNat) ∧ ¬ aheadR (cc i.toNat) (cc o.toNat)) := (fun z => z.2 c_71); exact (b2i_0 id).trans (b2i_0 w_).symm)))) H_L29 locs (cells_29) (slots_29) (by constructor <;> omega) kw hK hS (⟨rb_o_7, hm_o_7, hq_o_7, hr_o_7, hza_o_7, hzc_o_7⟩) hta (by omega) ls (lv_sub hl [0, 1, 2, 3, 4] rfl)
      refine lv_iload_n hx hb dX3_sort_13 rfl (lv_at hl 0 rfl) ?_
      refine xi_bipush hx hb (by decide) dX3_sort_14 ?_
      refine xi_icmp_ge (tgt := 105) hx hb dX3_sort_16 (by decide) (by omega) (by omega) (fun c_16 => ?_) (fun c_16 => ?_)
      · skip
        refine lv_aload_n hx hb dX3_sort_105 rfl (lv_at hl 2 rfl) ?_
        refine lv_aload_n hx hb dX3_sort_106 rfl (lv_at hl 1 rfl) ?_
        obtain ⟨rd_, hqa_, hra_⟩ := TArr.full hta (fun k hk => by obtain ⟨x, x1, x2⟩ := plcZ_ex (c := cc) hk; exact ⟨x, by omega, x2⟩)
        have hod_ := sortZ_ok hok
        have hw_o_10 := hwl
        obtain ⟨rb_o_10, hm_o_10, hq_o_10, hr_o_10, hza_o_10, hzc_o_10⟩ := hw_o_10
        refine x_c1V (as := [.ref (qq)]) (rest := []) S hK hm_o_10 rfl rfl (c_X3_comeAll l G H_L13 (mc) (0) (ac) (no) (kn) (cc) (rd_) (sortZ cc) (h) (qq) (by first | assumption | omega) (by first | assumption | omega) (by first | assumption | omega) (by assumption) (by omega) (by exact hod_) hwl hqa_ hra_) q1215 q1217 qs12 q43 q1218 hdX3_comeAll ⟨by decide, by decide⟩ hl.1 rfl rfl (Nat.le_of_ble_eq_true rfl) ⟨(by show _ ≤ (1 : Nat); omega), (by show _ ≤ (8 : Nat); omega)⟩ hS (fun q z => Or.inl z) (fun q z => Or.inr z) dX3_sort_107 (fun rv_c_11 H_c_11 locs hp_c_11 k_c_11 hS => ?_)
        have kw := kw.then k_c_11 (fun q e _ => e)
        have hK := hK.keep k_c_11 (fun q e => by have e : q = h ∨ q = mc := e; omega)
        obtain ⟨rfl, hw_r_12⟩ := hp_c_11
        refine W.eq (g2 := F0 m 110 ls [.int (iI (cntZ (fun i => b2i (¬ alikeR ((cc) i) ((sortZ cc) i))) 8))]) rfl ?_
        refine x_ret1i hx hb hr hlk hH hS (by omega) (by omega) ?_ dX3_sort_110
        first | (exfalso; omega) | exact ⟨(_, _, _, _, _), (by unfold op_sort; (repeat (first | with_reducible refine ifp (by omega) ?_ | with_reducible refine ifn (by omega) ?_)); first | rfl | exact comeF_s (by assumption) | exact comeF_n (by assumption) | exact comeF_s (if_pos (by omega)) | exact comeF_n (if_neg (by omega))), rfl, hw_r_12⟩
      · skip
        refine lv_aload_n hx hb dX3_sort_19 rfl (lv_at hl 2 rfl) ?_
        refine lv_iload_n hx hb dX3_sort_20 rfl (lv_at hl 0 rfl) ?_
        refine xi_iconst hx hb dX3_sort_21 ?_
        have hw_o_13 := hwl
        obtain ⟨rb_o_13, hm_o_13, hq_o_13, hr_o_13, hza_o_13, hzc_o_13⟩ := hw_o_13
        refine x_c0V (as := [.int (iI (i)), .int (iI (0))]) (rest := []) S hK hm_o_13 rfl rfl (c_X3_many l G H_L13 (mc) (0) (ac) (no) (kn) (cc) (h) (i) (False) (by omega) (by first | assumption | omega) (by first | assumption | omega) (by first | assumption | omega) (by assumption) (by omega) hwl) q1290 q1292 qs14 q43 q1293 hdX3_many ⟨by decide, by decide⟩ hl.1 rfl rfl (Nat.le_of_ble_eq_true rfl) ⟨(by show _ ≤ (1 : Nat); omega), (by show _ ≤ (8 : Nat); omega)⟩ dX3_sort_22 ?_
        refine lv_istore_n (lv' := [(3, .int (iI (if (False) then cntZ (fun j => b2i (aheadR ((cc) (i).toNat) ((cc) j))) 8 else cntZ (fun j => b2i (aheadR ((cc) j) ((cc) (i).toNat))) 8))), (2, .int (iI (i))), (1, .ref (qq)), (0, .ref (h))]) hx hb dX3_sort_25 rfl hl (by decide) rfl (fun ls hl => ?_)
        refine xi_iconst hx hb dX3_sort_26 ?_
        refine lv_istore (lv' := [(4, .int (iI (0))), (3, .int (iI (if (False) then cntZ (fun j => b2i (aheadR ((cc) (i).toNat) ((cc) j))) 8 else cntZ (fun j => b2i (aheadR ((cc) j) ((cc) (i).toNat))) 8))), (2, .int (iI (i))), (1, .ref (qq)), (0, .ref (h))]) hx hb dX3_sort_27 hl (by decide) rfl (fun ls hl => ?_)
        exact L_29 (((i - (0)).toNat) + 1) (0) (if (False) then cntZ (fun j => b2i (aheadR ((cc) (i).toNat) ((cc) j))) 8 else cntZ (fun j => b2i (aheadR ((cc) j) ((cc) (i).toNat))) 8) (by omega) (by (first | (rw [if_neg id]; exact (Int.add_zero _).symm) | (rw [cntZ_s ho.1, hpl, Int.add_assoc]; congr 1; congr 1; show b2i _ = b2i (¬ aheadR (cc o.toNat) (cc i.toNat) ∧ ¬ aheadR (cc i.toNat) (cc o.toNat)); first | exact (b2i_1 trivial).trans (b2i_1 ⟨c_52, c_71⟩).symm | (have w_ : ¬ (¬ aheadR (cc o.toNat) (cc i.toNat) ∧ ¬ aheadR (cc i.toNat) (cc o.toNat)) := (fun z => z.1 c_52); exact (b2i_0 id).trans (b2i_0 w_).symm) | (have w_ : ¬ (¬ aheadR (cc o.toNat) (cc i.toNat) ∧ ¬ aheadR (cc i.toNat) (cc o.toNat)) := (fun z => z.2 c_71); exact (b2i_0 id).trans (b2i_0 w_).symm)))) H_L13 locs (cells_13) (slots_13) (by constructor <;> omega) kw hK hS (⟨rb_o_13, hm_o_13, hq_o_13, hr_o_13, hza_o_13, hzc_o_13⟩) hta (by omega) ls (lv_sub hl [0, 1, 2, 3, 4] rfl)
  exact L_13 ((((8 : Int) - (0)).toNat) + 1) (a_n_3) (0) (by omega) (by omega) H_n_3 locs 1 8 (by constructor <;> omega) kw hK hS (⟨rb_o_1, hm_o_1, hq_o_1, hr_o_1, hza_o_1, hzc_o_1⟩) (TArr.c (fun k _ (z : ∃ x : Nat, x < (0 : Int).toNat ∧ (plcZ cc x).toNat = k) => z.elim (fun x hx_ => absurd hx_.1 (by omega))) hq_n_3) (by omega) ls (lv_sub hl [0, 1, 2] rfl)

