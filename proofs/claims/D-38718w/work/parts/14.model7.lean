set_option maxRecDepth 100000
theorem hpX3_comeAll : plainFor yX3_comeAll = true := by decide +kernel
theorem hdX3_comeAll : nMH yX3_comeAll 1 := by decide +kernel
set_option maxHeartbeats 4000000 in
theorem c_X3_comeAll (l : Launch) (G : GG) (H0 : Heap) (mc : Nat) (th : Int) (ac : Int) (no : Int) (kn : Int) (cc : Nat → Row) (rd : Nat → Nat) (d : Nat → Row) (h : Nat) (q : Nat) (hac : 0 ≤ ac ∧ ac ≤ 1000) (hno : 0 ≤ no ∧ no ≤ 1000) (hkn : 0 ≤ kn ∧ kn ≤ 1000) (hok : ∀ k : Nat, k < 8 → okR (cc k)) (hqm : q ≠ mc) (hod : ∀ k : Nat, k < 8 → okR (d k)) (hw : MW G (h) (mc) (th) (ac) (no) (kn) (cc) H0) (fq : QArr G (q) (rd) H0) (fr : Rows G (rd) (d) H0) : Ct1 l G yX3_comeAll cX3_comeAll 4 (Option.some Jvm.ClassFile.FieldType.int) 1 0 0 21 [.ref (h), .ref (q)] H0 (fun q => q = h ∨ q = mc) (fun (rv : Option Value) (H1 : Heap) => rv = some (.int (iI (cntZ (fun i => b2i (¬ alikeR (cc i) (d i))) 8))) ∧ MW G h mc th (ac + 1) no kn (mixC cc d 8) H1) := by
  refine Ct1.start hpX3_comeAll (Nat.le_of_ble_eq_true rfl) ?_
  intro p e s m below meth c ls hx hb hr S hlk hname hH hK hS hl
  have hl : lv_has ls 4 [(0, .ref (h)), (1, .ref (q))] := hl
  have hbc : ∀ k : Nat, k < 8 → bRow (cc k) := fun k h => okR_b (hok k h)
  have kw : Keep (fun q => q = h ∨ q = mc) H0 H0 := Keep.rf
  have hz0 := hK.2.2.1
  refine lv_aload_n hx hb dX3_comeAll_0 rfl (lv_at hl 0 rfl) ?_
  refine lv_dup hx hb dX3_comeAll_1 rfl ?_
  have hw_o_1 := hw
  obtain ⟨rb_o_1, hm_o_1, hq_o_1, hr_o_1, hza_o_1, hzc_o_1⟩ := hw_o_1
  refine x_get S hK in_X3 hm_o_1 rfl 1 (by decide) q1149 (fun x h => h) rfl dX3_comeAll_2 ?_
  refine xi_iconst hx hb dX3_comeAll_5 ?_
  refine xi_iadd hx hb dX3_comeAll_6 ?_
  refine x_put S hK in_X3 tyX3 tyX3_ok nmX3 hm_o_1 rfl 1 (by decide) q1149 (fun x h => h) rfl rfl rfl (Nat.le_of_ble_eq_true rfl) hS (Or.inl (Or.inl rfl)) dX3_comeAll_7 (fun H_p_2 locs hq_p_2 k_p_2 hz_p_2 hS => ?_)
  have kw := kw.then k_p_2 (fun q e _ => Or.inl e)
  have hK := hK.keep k_p_2 (fun q e => by have e : q = h := e; omega)
  have fq := fq.keep k_p_2 (Ne.symm (ne_oa hK rfl rfl hm_o_1 fq))
  have fr := fr.keep k_p_2 (fun j hj => (Ne.symm (ne_oa hK rfl rfl hm_o_1 (fr j hj))))
  have hq_o_1 := hq_o_1.keep k_p_2 (Ne.symm (ne_oa hK rfl rfl hm_o_1 hq_o_1))
  have hr_o_1 := hr_o_1.keep k_p_2 (fun j hj => (Ne.symm (ne_oa hK rfl rfl hm_o_1 (hr_o_1 j hj))))
  have hm_o_1 : MdAt G (h) (th) ((ac) + (1)) (no) (kn) (mc) H_p_2 := hq_p_2
  refine xi_iconst hx hb dX3_comeAll_10 ?_
  refine lv_istore_n (lv' := [(2, .int (iI (0))), (0, .ref (h)), (1, .ref (q))]) hx hb dX3_comeAll_11 rfl hl (by decide) rfl (fun ls hl => ?_)
  refine xi_iconst hx hb dX3_comeAll_12 ?_
  refine lv_istore_n (lv' := [(3, .int (iI (0))), (2, .int (iI (0))), (0, .ref (h)), (1, .ref (q))]) hx hb dX3_comeAll_13 rfl hl (by decide) rfl (fun ls hl => ?_)
  have L_14 : ∀ (n_ : Nat) (j : Int) (k : Int) (hj : 0 ≤ j ∧ j ≤ 8) (hk : k = cntZ (fun i => b2i (¬ alikeR (cc i) (d i))) j.toNat) (H_L14 : Heap) (locs : List Loc) (cells_14 slots_14 : Nat) (hcs_14 : cells_14 = 0 ∧ slots_14 = 0) (kw : Keep (fun q => q = h ∨ q = mc) H0 H_L14) (hK : KH G s H_L14) (hS : va_S (xA (fun q => q = h ∨ q = mc) H0) H0 H_L14 locs) (hwl : MW G (h) (mc) (th) (ac + 1) (no) (kn) (mixC cc d j.toNat) H_L14) (fq : QArr G (q) (rd) H_L14) (fr : Rows G (rd) (d) H_L14) (hm_ : ((8 : Int) - j).toNat < n_) (ls : Array Slot) (hl : lv_has ls 4 [(3, .int (iI (j))), (2, .int (iI (k))), (0, .ref (h)), (1, .ref (q))]), W p l e { frames := 1, cells := 0, slots := 0, locals := 21 } s m ([.ref (h), .ref (q)] : List Value).toArray below meth c H_L14 locs cells_14 slots_14 (MQ below (xQ (fun (rv : Option Value) (H1 : Heap) => rv = some (.int (iI (cntZ (fun i => b2i (¬ alikeR (cc i) (d i))) 8))) ∧ MW G h mc th (ac + 1) no kn (mixC cc d 8) H1) (xA (fun q => q = h ∨ q = mc) H0)) ([.ref (h), .ref (q)] : List Value).toArray s 0 0 (xA (fun q => q = h ∨ q = mc) H0)) (F0 m 14 ls []) := by
    intro n_
    induction n_ with
    | zero =>
      intro j k hj hk H_L14 locs cells_14 slots_14 hcs_14 kw hK hS hwl fq fr hm_ ls hl
      exact absurd hm_ (Nat.not_lt_zero _)
    | succ n_ ih_14 =>
      intro j k hj hk H_L14 locs cells_14 slots_14 hcs_14 kw hK hS hwl fq fr hm_ ls hl
      refine lv_iload_n hx hb dX3_comeAll_14 rfl (lv_at hl 0 rfl) ?_
      refine xi_bipush hx hb (by decide) dX3_comeAll_15 ?_
      refine xi_icmp_ge (tgt := 61) hx hb dX3_comeAll_17 (by decide) (by omega) (by omega) (fun c_17 => ?_) (fun c_17 => ?_)
      · skip
        refine lv_iload_n hx hb dX3_comeAll_61 rfl (lv_at hl 1 rfl) ?_
        refine x_ret1i hx hb hr hlk hH hS (by omega) (by omega) ?_ dX3_comeAll_62
        exact ⟨(by rw [hk, show j.toNat = 8 by omega]), MW.c (by rw [show j.toNat = 8 by omega]) hwl⟩
      · skip
        refine lv_iload_n hx hb dX3_comeAll_20 rfl (lv_at hl 1 rfl) ?_
        refine lv_aload_n hx hb dX3_comeAll_21 rfl (lv_at hl 2 rfl) ?_
        have hw_o_3 := hwl
        obtain ⟨rb_o_3, hm_o_3, hq_o_3, hr_o_3, hza_o_3, hzc_o_3⟩ := hw_o_3
        refine x_get S hK in_X3 hm_o_3 rfl 4 (by decide) q1152 (fun x h => h) rfl dX3_comeAll_22 ?_
        refine lv_iload_n hx hb dX3_comeAll_25 rfl (lv_at hl 0 rfl) ?_
        refine x_aald S hK 3 rfl rfl hq_o_3 (by omega) (by omega) rfl dX3_comeAll_26 ?_
        have hr_w_4 := hr_o_3 (j).toNat (by omega)
        rw [mix_n] at hr_w_4
        have hbw_w_4 := hbc (j).toNat (by omega)
        refine lv_aload_n hx hb dX3_comeAll_27 rfl (lv_at hl 3 rfl) ?_
        refine lv_iload_n hx hb dX3_comeAll_28 rfl (lv_at hl 0 rfl) ?_
        refine x_aald S hK 3 rfl rfl fq (by omega) (by omega) rfl dX3_comeAll_29 ?_
        have hr_w_5 := fr (j).toNat (by omega)
        refine x_c0S (as := [.ref ((rb_o_3) ((j).toNat)), .ref ((rd) ((j).toNat))]) (rest := [.int (iI (k))]) S hK (c_X3_isAlike l G H_L14 (cc (j).toNat) (d (j).toNat) ((rb_o_3) ((j).toNat)) ((rd) ((j).toNat)) (by first | assumption | (apply hbc; omega)) (by exact okR_b (hod j.toNat (by omega))) hr_w_4 hr_w_5) q1194 q1195 q43 q1196 hdX3_isAlike ⟨by decide, by decide⟩ hl.1 rfl rfl (Nat.le_of_ble_eq_true rfl) ⟨(by show _ ≤ (0 : Nat); omega), (by show _ ≤ (0 : Nat); omega)⟩ dX3_comeAll_30 ?_
        refine xi_ifb_ne (tgt := 40) hx hb dX3_comeAll_33 (by decide) (fun c_33 => ?_) (fun c_33 => ?_)
        · skip
          refine xi_iconst hx hb dX3_comeAll_40 ?_
          refine x_c0S (as := [.int (iI (0))]) (rest := [.int (iI (k))]) S hK (c_X3_one l G H_L14 (False)  ) q1145 q1146 q43 q1147 hdX3_one ⟨by decide, by decide⟩ hl.1 rfl rfl (Nat.le_of_ble_eq_true rfl) ⟨(by show _ ≤ (0 : Nat); omega), (by show _ ≤ (0 : Nat); omega)⟩ dX3_comeAll_41 ?_
          refine xi_iadd hx hb dX3_comeAll_44 ?_
          refine lv_istore_n (lv' := [(2, .int (iI ((k) + (b2i (False))))), (3, .int (iI (j))), (0, .ref (h)), (1, .ref (q))]) hx hb dX3_comeAll_45 rfl hl (by decide) rfl (fun ls hl => ?_)
          refine lv_aload_n hx hb dX3_comeAll_46 rfl (lv_at hl 2 rfl) ?_
          refine x_get S hK in_X3 hm_o_3 rfl 4 (by decide) q1152 (fun x h => h) rfl dX3_comeAll_47 ?_
          refine lv_iload_n hx hb dX3_comeAll_50 rfl (lv_at hl 1 rfl) ?_
          refine lv_aload_n hx hb dX3_comeAll_51 rfl (lv_at hl 3 rfl) ?_
          refine lv_iload_n hx hb dX3_comeAll_52 rfl (lv_at hl 1 rfl) ?_
          refine x_aald S hK 3 rfl rfl fq (by omega) (by omega) rfl dX3_comeAll_53 ?_
          refine x_aastI S hK hq_o_3 hr_w_5 (by omega) (by omega) hS (Or.inl (Or.inr rfl)) dX3_comeAll_54 (fun H_q_6 locs hq_q_6 k_q_6 hz_q_6 hS => ?_)
          have kw := kw.then k_q_6 (fun q e _ => Or.inr e)
          have hK := hK.keep k_q_6 (fun q e => by have e : q = mc := e; omega)
          have fq := fq.keep k_q_6 hqm
          have fr := fr.keep k_q_6 (fun j hj => (ne_len (fr j hj) hq_o_3 (Nat.ne_of_beq_eq_false rfl)))
          have hm_o_3 := hm_o_3.keep k_q_6 (ne_oa hK rfl rfl hm_o_3 hq_o_3)
          have hr_o_3 := hr_o_3.keep k_q_6 (fun j hj => (ne_len (hr_o_3 j hj) hq_o_3 (Nat.ne_of_beq_eq_false rfl)))
          have hr_w_4 := hr_w_4.keep k_q_6 (ne_len hr_w_4 hq_o_3 (Nat.ne_of_beq_eq_false rfl))
          have hr_w_5 := hr_w_5.keep k_q_6 (ne_len hr_w_5 hq_o_3 (Nat.ne_of_beq_eq_false rfl))
          obtain ⟨rb_q_6, hq_o_3, hr_o_3⟩ := rows_put hq_q_6 hr_o_3 (hr_w_5) (by omega)
          refine xi_iinc (lv' := [(3, .int (iI (j + 1))), (2, .int (iI ((k) + (b2i (False))))), (0, .ref (h)), (1, .ref (q))]) hx hb dX3_comeAll_55 hl (k := 1) rfl (by decide) rfl (fun ls hl => ?_)
          refine lv_goto (tgt := 14) hx hb dX3_comeAll_58 (by decide) ?_
          exact ih_14 (j + 1) ((k) + (b2i (False))) (by omega) (by (first | rfl | exact cnt_up hj.1 hk (by show b2i _ = b2i (¬ alikeR (cc j.toNat) (d j.toNat)); first | exact (b2i_1 trivial).trans (b2i_1 (by omega)).symm | exact (b2i_0 id).trans (b2i_0 (by omega)).symm))) H_q_6 locs (cells_14) (slots_14) (by constructor <;> omega) kw hK hS (MW.c (mix_up hj.1) ⟨rb_q_6, hm_o_3, hq_o_3, hr_o_3, hza_o_3, hzc_o_3⟩) fq fr (by omega) ls (lv_sub hl [0, 1, 2, 3] rfl)
        · skip
          refine xi_iconst hx hb dX3_comeAll_36 ?_
          refine lv_goto (tgt := 41) hx hb dX3_comeAll_37 (by decide) ?_
          refine x_c0S (as := [.int (iI (1))]) (rest := [.int (iI (k))]) S hK (c_X3_one l G H_L14 (True)  ) q1145 q1146 q43 q1147 hdX3_one ⟨by decide, by decide⟩ hl.1 rfl rfl (Nat.le_of_ble_eq_true rfl) ⟨(by show _ ≤ (0 : Nat); omega), (by show _ ≤ (0 : Nat); omega)⟩ dX3_comeAll_41 ?_
          refine xi_iadd hx hb dX3_comeAll_44 ?_
          refine lv_istore_n (lv' := [(2, .int (iI ((k) + (b2i (True))))), (3, .int (iI (j))), (0, .ref (h)), (1, .ref (q))]) hx hb dX3_comeAll_45 rfl hl (by decide) rfl (fun ls hl => ?_)
          refine lv_aload_n hx hb dX3_comeAll_46 rfl (lv_at hl 2 rfl) ?_
          refine x_get S hK in_X3 hm_o_3 rfl 4 (by decide) q1152 (fun x h => h) rfl dX3_comeAll_47 ?_
          refine lv_iload_n hx hb dX3_comeAll_50 rfl (lv_at hl 1 rfl) ?_
          refine lv_aload_n hx hb dX3_comeAll_51 rfl (lv_at hl 3 rfl) ?_
          refine lv_iload_n hx hb dX3_comeAll_52 rfl (lv_at hl 1 rfl) ?_
          refine x_aald S hK 3 rfl rfl fq (by omega) (by omega) rfl dX3_comeAll_53 ?_
          refine x_aastI S hK hq_o_3 hr_w_5 (by omega) (by omega) hS (Or.inl (Or.inr rfl)) dX3_comeAll_54 (fun H_q_7 locs hq_q_7 k_q_7 hz_q_7 hS => ?_)
          have kw := kw.then k_q_7 (fun q e _ => Or.inr e)
          have hK := hK.keep k_q_7 (fun q e => by have e : q = mc := e; omega)
          have fq := fq.keep k_q_7 hqm
          have fr := fr.keep k_q_7 (fun j hj => (ne_len (fr j hj) hq_o_3 (Nat.ne_of_beq_eq_false rfl)))
          have hm_o_3 := hm_o_3.keep k_q_7 (ne_oa hK rfl rfl hm_o_3 hq_o_3)
          have hr_o_3 := hr_o_3.keep k_q_7 (fun j hj => (ne_len (hr_o_3 j hj) hq_o_3 (Nat.ne_of_beq_eq_false rfl)))
          have hr_w_4 := hr_w_4.keep k_q_7 (ne_len hr_w_4 hq_o_3 (Nat.ne_of_beq_eq_false rfl))
          have hr_w_5 := hr_w_5.keep k_q_7 (ne_len hr_w_5 hq_o_3 (Nat.ne_of_beq_eq_false rfl))
          obtain ⟨rb_q_7, hq_o_3, hr_o_3⟩ := rows_put hq_q_7 hr_o_3 (hr_w_5) (by omega)
          refine xi_iinc (lv' := [(3, .int (iI (j + 1))), (2, .int (iI ((k) + (b2i (True))))), (0, .ref (h)), (1, .ref (q))]) hx hb dX3_comeAll_55 hl (k := 1) rfl (by decide) rfl (fun ls hl => ?_)
          refine lv_goto (tgt := 14) hx hb dX3_comeAll_58 (by decide) ?_
          exact ih_14 (j + 1) ((k) + (b2i (True))) (by omega) (by (first | rfl | exact cnt_up hj.1 hk (by show b2i _ = b2i (¬ alikeR (cc j.toNat) (d j.toNat)); first | exact (b2i_1 trivial).trans (b2i_1 (by omega)).symm | exact (b2i_0 id).trans (b2i_0 (by omega)).symm))) H_q_7 locs (cells_14) (slots_14) (by constructor <;> omega) kw hK hS (MW.c (mix_up hj.1) ⟨rb_q_7, hm_o_3, hq_o_3, hr_o_3, hza_o_3, hzc_o_3⟩) fq fr (by omega) ls (lv_sub hl [0, 1, 2, 3] rfl)
  exact L_14 ((((8 : Int) - (0)).toNat) + 1) (0) (0) (by omega) (by (first | rfl | exact cnt_up hj.1 hk (by show b2i _ = b2i (¬ alikeR (cc j.toNat) (d j.toNat)); first | exact (b2i_1 trivial).trans (b2i_1 (by omega)).symm | exact (b2i_0 id).trans (b2i_0 (by omega)).symm))) H_p_2 locs 0 0 (by constructor <;> omega) kw hK hS (MW.c mix_0.symm ⟨rb_o_1, hm_o_1, hq_o_1, hr_o_1, hza_o_1, hzc_o_1⟩) fq fr (by omega) ls (lv_sub hl [0, 1, 2, 3] rfl)

