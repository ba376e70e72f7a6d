set_option maxRecDepth 100000
theorem hpX3_houseTold : plainFor yX3_houseTold = true := by decide +kernel
theorem hdX3_houseTold : nMH yX3_houseTold 1 := by decide +kernel
set_option maxHeartbeats 4000000 in
theorem c_X3_houseTold (l : Launch) (G : GG) (H0 : Heap) (mc : Nat) (th : Int) (ac : Int) (no : Int) (kn : Int) (cc : Nat → Row) (h : Nat) (w : Int) (r_w : -2147483648 ≤ w ∧ w < 2147483648) (hac : 0 ≤ ac ∧ ac ≤ 1000) (hno : 0 ≤ no ∧ no ≤ 1000) (hkn : 0 ≤ kn ∧ kn ≤ 1000) (hok : ∀ k : Nat, k < 8 → okR (cc k)) (hw2 : 0 ≤ w ∧ w ≤ 4) (hw : MW G (h) (mc) (th) (ac) (no) (kn) (cc) H0) : Ct1 l G yX3_houseTold cX3_houseTold 6 (Option.some Jvm.ClassFile.FieldType.int) 2 1 5 41 [.ref (h), .int (iI (w))] H0 (noW) (fun (rv : Option Value) (H1 : Heap) => rv = some (.int (iI (houseZ ac no kn cc w)))) := by
  refine Ct1.start hpX3_houseTold (Nat.le_of_ble_eq_true rfl) ?_
  intro p e s m below meth c ls hx hb hr S hlk hname hH hK hS hl
  have hl : lv_has ls 6 [(0, .ref (h)), (1, .int (iI (w)))] := hl
  have hbc : ∀ k : Nat, k < 8 → bRow (cc k) := fun k h => okR_b (hok k h)
  have kw : Keep (noW) H0 H0 := Keep.rf
  have hz0 := hK.2.2.1
  refine xi_iconst hx hb dX3_houseTold_0 ?_
  refine lv_istore_n (lv' := [(2, .int (iI (0))), (0, .ref (h)), (1, .int (iI (w)))]) hx hb dX3_houseTold_1 rfl hl (by decide) rfl (fun ls hl => ?_)
  refine xi_iconst hx hb dX3_houseTold_2 ?_
  refine lv_istore_n (lv' := [(3, .int (iI (0))), (2, .int (iI (0))), (0, .ref (h)), (1, .int (iI (w)))]) hx hb dX3_houseTold_3 rfl hl (by decide) rfl (fun ls hl => ?_)
  refine xi_iconst hx hb dX3_houseTold_4 ?_
  refine lv_istore (lv' := [(4, .int (iI (0))), (3, .int (iI (0))), (2, .int (iI (0))), (0, .ref (h)), (1, .int (iI (w)))]) hx hb dX3_houseTold_5 hl (by decide) rfl (fun ls hl => ?_)
  have L_7 : ∀ (n_ : Nat) (j : Int) (a : Int) (b : Int) (hj : 0 ≤ j ∧ j ≤ 8) (hna : a = cntZ (fun x => b2i ((cc x).1 = 0)) j.toNat) (hnb : b = nearsZ cc j.toNat) (H_L7 : Heap) (locs : List Loc) (cells_7 slots_7 : Nat) (hcs_7 : cells_7 = 0 ∧ slots_7 = 0) (kw : Keep (noW) H0 H_L7) (hK : KH G s H_L7) (hS : va_S (xA (noW) H0) H0 H_L7 locs)  (hm_ : ((8 : Int) - j).toNat < n_) (ls : Array Slot) (hl : lv_has ls 6 [(4, .int (iI (j))), (2, .int (iI (a))), (3, .int (iI (b))), (0, .ref (h)), (1, .int (iI (w)))]), W p l e { frames := 2, cells := 1, slots := 5, locals := 41 } s m ([.ref (h), .int (iI (w))] : List Value).toArray below meth c H_L7 locs cells_7 slots_7 (MQ below (xQ (fun (rv : Option Value) (H1 : Heap) => rv = some (.int (iI (houseZ ac no kn cc w)))) (xA (noW) H0)) ([.ref (h), .int (iI (w))] : List Value).toArray s 1 5 (xA (noW) H0)) (F0 m 7 ls []) := by
    intro n_
    induction n_ with
    | zero =>
      intro j a b hj hna hnb H_L7 locs cells_7 slots_7 hcs_7 kw hK hS hm_ ls hl
      exact absurd hm_ (Nat.not_lt_zero _)
    | succ n_ ih_7 =>
      intro j a b hj hna hnb H_L7 locs cells_7 slots_7 hcs_7 kw hK hS hm_ ls hl
      have L_40 : ∀ (n_ : Nat) (i : Int) (a2 : Int) (b2 : Int) (hi : 0 ≤ i ∧ i ≤ j ∧ j < 8) (hna2 : a2 = cntZ (fun x => b2i ((cc x).1 = 0)) (j + 1).toNat) (hnb2 : b2 = nearsZ cc j.toNat + cntZ (fun i => b2i (nearR (cc j.toNat) (cc i))) i.toNat) (H_L40 : Heap) (locs : List Loc) (cells_40 slots_40 : Nat) (hcs_40 : cells_40 = cells_7 ∧ slots_40 = slots_7) (kw : Keep (noW) H0 H_L40) (hK : KH G s H_L40) (hS : va_S (xA (noW) H0) H0 H_L40 locs)  (hm_ : (j - i).toNat < n_) (ls : Array Slot) (hl : lv_has ls 6 [(5, .int (iI (i))), (4, .int (iI (j))), (2, .int (iI (a2))), (3, .int (iI (b2))), (0, .ref (h)), (1, .int (iI (w)))]), W p l e { frames := 2, cells := 1, slots := 5, locals := 41 } s m ([.ref (h), .int (iI (w))] : List Value).toArray below meth c H_L40 locs cells_40 slots_40 (MQ below (xQ (fun (rv : Option Value) (H1 : Heap) => rv = some (.int (iI (houseZ ac no kn cc w)))) (xA (noW) H0)) ([.ref (h), .int (iI (w))] : List Value).toArray s 1 5 (xA (noW) H0)) (F0 m 40 ls []) := by
        intro n_
        induction n_ with
        | zero =>
          intro i a2 b2 hi hna2 hnb2 H_L40 locs cells_40 slots_40 hcs_40 kw hK hS hm_ ls hl
          exact absurd hm_ (Nat.not_lt_zero _)
        | succ n_ ih_40 =>
          intro i a2 b2 hi hna2 hnb2 H_L40 locs cells_40 slots_40 hcs_40 kw hK hS hm_ ls hl
          refine lv_iload hx hb dX3_houseTold_40 (lv_at hl 0 rfl) ?_
          refine lv_iload hx hb dX3_houseTold_42 (lv_at hl 1 rfl) ?_
          refine xi_icmp_ge (tgt := 76) hx hb dX3_houseTold_44 (by decide) (by omega) (by omega) (fun c_44 => ?_) (fun c_44 => ?_)
          · skip
            refine xi_iinc (lv' := [(4, .int (iI (j + 1))), (5, .int (iI (i))), (2, .int (iI (a2))), (3, .int (iI (b2))), (0, .ref (h)), (1, .int (iI (w)))]) hx hb dX3_houseTold_76 hl (k := 1) rfl (by decide) rfl (fun ls hl => ?_)
            refine lv_goto (tgt := 7) hx hb dX3_houseTold_79 (by decide) ?_
            exact ih_7 (j + 1) (a2) (b2) (by omega) (by first | rfl | exact hna2) (by first | rfl | (rw [nearsZ_s hj.1, hnb2, show i.toNat = j.toNat by omega])) H_L40 locs (cells_40) (slots_40) (by constructor <;> omega) kw hK hS (by omega) ls (lv_sub hl [0, 2, 3, 4, 5] rfl)
          · skip
            refine lv_iload_n hx hb dX3_houseTold_47 rfl (lv_at hl 3 rfl) ?_
            refine lv_aload_n hx hb dX3_houseTold_48 rfl (lv_at hl 4 rfl) ?_
            have hw_o_1 := (hw.ext kw)
            obtain ⟨rb_o_1, hm_o_1, hq_o_1, hr_o_1, hza_o_1, hzc_o_1⟩ := hw_o_1
            refine x_get S hK in_X3 hm_o_1 rfl 4 (by decide) q1152 (fun x h => h) rfl dX3_houseTold_49 ?_
            refine lv_iload hx hb dX3_houseTold_52 (lv_at hl 1 rfl) ?_
            refine x_aald S hK 3 rfl rfl hq_o_1 (by omega) (by omega) rfl dX3_houseTold_54 ?_
            have hr_w_2 := hr_o_1 (j).toNat (by omega)
            have hbw_w_2 := hbc (j).toNat (by omega)
            refine lv_aload_n hx hb dX3_houseTold_55 rfl (lv_at hl 4 rfl) ?_
            refine x_get S hK in_X3 hm_o_1 rfl 4 (by decide) q1152 (fun x h => h) rfl dX3_houseTold_56 ?_
            refine lv_iload hx hb dX3_houseTold_59 (lv_at hl 0 rfl) ?_
            refine x_aald S hK 3 rfl rfl hq_o_1 (by omega) (by omega) rfl dX3_houseTold_61 ?_
            have hr_w_3 := hr_o_1 (i).toNat (by omega)
            have hbw_w_3 := hbc (i).toNat (by omega)
            refine x_c0S (as := [.ref ((rb_o_1) ((j).toNat)), .ref ((rb_o_1) ((i).toNat))]) (rest := [.int (iI (b2))]) S hK (c_X3_isNear l G H_L40 (cc (j).toNat) (cc (i).toNat) ((rb_o_1) ((j).toNat)) ((rb_o_1) ((i).toNat)) (by first | assumption | (apply hbc; omega)) (by first | assumption | (apply hbc; omega)) hr_w_2 hr_w_3) q1698 q1699 q43 q1700 hdX3_isNear ⟨by decide, by decide⟩ hl.1 rfl rfl (Nat.le_of_ble_eq_true rfl) ⟨(by show _ ≤ (1 : Nat); omega), (by show _ ≤ (5 : Nat); omega)⟩ dX3_houseTold_62 ?_
            refine x_c0S (as := [.int (iI (b2i (nearR (cc (j).toNat) (cc (i).toNat))))]) (rest := [.int (iI (b2))]) S hK (c_X3_one l G H_L40 (nearR (cc (j).toNat) (cc (i).toNat))  ) q1145 q1146 q43 q1147 hdX3_one ⟨by decide, by decide⟩ hl.1 rfl rfl (Nat.le_of_ble_eq_true rfl) ⟨(by show _ ≤ (1 : Nat); omega), (by show _ ≤ (5 : Nat); omega)⟩ dX3_houseTold_65 ?_
            refine xi_iadd hx hb dX3_houseTold_68 ?_
            refine lv_istore_n (lv' := [(3, .int (iI ((b2) + (b2i ((nearR (cc (j).toNat) (cc (i).toNat))))))), (5, .int (iI (i))), (4, .int (iI (j))), (2, .int (iI (a2))), (0, .ref (h)), (1, .int (iI (w)))]) hx hb dX3_houseTold_69 rfl hl (by decide) rfl (fun ls hl => ?_)
            refine xi_iinc (lv' := [(5, .int (iI (i + 1))), (3, .int (iI ((b2) + (b2i ((nearR (cc (j).toNat) (cc (i).toNat))))))), (4, .int (iI (j))), (2, .int (iI (a2))), (0, .ref (h)), (1, .int (iI (w)))]) hx hb dX3_houseTold_70 hl (k := 1) rfl (by decide) rfl (fun ls hl => ?_)
            refine lv_goto (tgt := 40) hx hb dX3_houseTold_73 (by decide) ?_
            exact ih_40 (i + 1) (a2) ((b2) + (b2i ((nearR (cc (j).toNat) (cc (i).toNat))))) (by omega) (by (first | exact hna2 | exact cnt_up hj.1 hna (by show b2i _ = b2i ((cc j.toNat).1 = 0); first | exact (b2i_1 trivial).trans (b2i_1 (by omega)).symm | exact (b2i_0 id).trans (b2i_0 (by omega)).symm))) (by (first | (rw [hnb]; exact (Int.add_zero _).symm) | (rw [hnb2, cntZ_s hi.1]; exact Int.add_assoc _ _ _))) H_L40 locs (cells_40) (slots_40) (by constructor <;> omega) kw hK hS (by omega) ls (lv_sub hl [0, 2, 3, 1, 4, 5] rfl)
      refine lv_iload hx hb dX3_houseTold_7 (lv_at hl 0 rfl) ?_
      refine xi_bipush hx hb (by decide) dX3_houseTold_9 ?_
      refine xi_icmp_ge (tgt := 82) hx hb dX3_houseTold_11 (by decide) (by omega) (by omega) (fun c_11 => ?_) (fun c_11 => ?_)
      · skip
        refine xi_iconst hx hb dX3_houseTold_82 ?_
        refine x_newai S hK q1164 (by omega) ⟨(by show _ ≤ (1 : Nat); omega), (by show _ ≤ (5 : Nat); omega)⟩ hS dX3_houseTold_83 (fun a_n_4 H_n_4 ha_n_4 hq_n_4 k_n_4 hS => ?_)
        have hge_n_4 : H0.size ≤ a_n_4 := by rw [ha_n_4]; exact kw.1
        have kb_n_4 : Keep noW H_L7 H_L7 := Keep.rf
        have kw := kw.trans k_n_4
        have hK := hK.ext k_n_4
        have kb_n_4 := kb_n_4.trans k_n_4
        have hq_n_4 : IArr G a_n_4 5 (fun _ => 0) H_n_4 := hq_n_4
        refine lv_dup hx hb dX3_houseTold_85 rfl ?_
        refine xi_iconst hx hb dX3_houseTold_86 ?_
        refine lv_aload_n hx hb dX3_houseTold_87 rfl (lv_at hl 3 rfl) ?_
        have hw_o_5 := (hw.ext kw)
        obtain ⟨rb_o_5, hm_o_5, hq_o_5, hr_o_5, hza_o_5, hzc_o_5⟩ := hw_o_5
        refine x_get S hK in_X3 hm_o_5 rfl 1 (by decide) q1149 (fun x h => h) rfl dX3_houseTold_88 ?_
        refine x_iast S hK hq_n_4 (by omega) (by omega) hS (Or.inr (by omega)) dX3_houseTold_91 (fun H_s_6 locs hq_s_6 k_s_6 hz_s_6 hS => ?_)
        have kw := kw.then k_s_6 (fun q e hlt => by have e : q = a_n_4 := e; exact absurd hlt (by omega))
        have hK := hK.keep k_s_6 (fun q e => by have e : q = a_n_4 := e; omega)
        have kb_n_4 := kb_n_4.then k_s_6 (fun q e hlt => by have e : q = a_n_4 := e; exact absurd hlt (by omega))
        have hm_o_5 := hm_o_5.keep k_s_6 (ne_oa hK rfl rfl hm_o_5 hq_n_4)
        have hq_o_5 := hq_o_5.keep k_s_6 (ne_len hq_o_5 hq_n_4 (Nat.ne_of_beq_eq_false rfl))
        have hr_o_5 := hr_o_5.keep k_s_6 (fun j hj => (ne_len (hr_o_5 j hj) hq_n_4 (Nat.ne_of_beq_eq_false rfl)))
        have hq_n_4 : IArr G a_n_4 5 (upd (fun _ => 0) (0 : Int).toNat (iI (ac))) H_s_6 := hq_s_6
        refine lv_dup hx hb dX3_houseTold_92 rfl ?_
        refine xi_iconst hx hb dX3_houseTold_93 ?_
        refine lv_aload_n hx hb dX3_houseTold_94 rfl (lv_at hl 3 rfl) ?_
        refine x_get S hK in_X3 hm_o_5 rfl 2 (by decide) q1150 (fun x h => h) rfl dX3_houseTold_95 ?_
        refine x_iast S hK hq_n_4 (by omega) (by omega) hS (Or.inr (by omega)) dX3_houseTold_98 (fun H_s_7 locs hq_s_7 k_s_7 hz_s_7 hS => ?_)
        have kw := kw.then k_s_7 (fun q e hlt => by have e : q = a_n_4 := e; exact absurd hlt (by omega))
        have hK := hK.keep k_s_7 (fun q e => by have e : q = a_n_4 := e; omega)
        have kb_n_4 := kb_n_4.then k_s_7 (fun q e hlt => by have e : q = a_n_4 := e; exact absurd hlt (by omega))
        have hm_o_5 := hm_o_5.keep k_s_7 (ne_oa hK rfl rfl hm_o_5 hq_n_4)
        have hq_o_5 := hq_o_5.keep k_s_7 (ne_len hq_o_5 hq_n_4 (Nat.ne_of_beq_eq_false rfl))
        have hr_o_5 := hr_o_5.keep k_s_7 (fun j hj => (ne_len (hr_o_5 j hj) hq_n_4 (Nat.ne_of_beq_eq_false rfl)))
        have hq_n_4 : IArr G a_n_4 5 (upd (upd (fun _ => 0) (0 : Int).toNat (iI (ac))) (1 : Int).toNat (iI (no))) H_s_7 := hq_s_7
        refine lv_dup hx hb dX3_houseTold_99 rfl ?_
        refine xi_iconst hx hb dX3_houseTold_100 ?_
        refine lv_aload_n hx hb dX3_houseTold_101 rfl (lv_at hl 3 rfl) ?_
        refine x_get S hK in_X3 hm_o_5 rfl 3 (by decide) q1151 (fun x h => h) rfl dX3_houseTold_102 ?_
        refine x_iast S hK hq_n_4 (by omega) (by omega) hS (Or.inr (by omega)) dX3_houseTold_105 (fun H_s_8 locs hq_s_8 k_s_8 hz_s_8 hS => ?_)
        have kw := kw.then k_s_8 (fun q e hlt => by have e : q = a_n_4 := e; exact absurd hlt (by omega))
        have hK := hK.keep k_s_8 (fun q e => by have e : q = a_n_4 := e; omega)
        have kb_n_4 := kb_n_4.then k_s_8 (fun q e hlt => by have e : q = a_n_4 := e; exact absurd hlt (by omega))
        have hm_o_5 := hm_o_5.keep k_s_8 (ne_oa hK rfl rfl hm_o_5 hq_n_4)
        have hq_o_5 := hq_o_5.keep k_s_8 (ne_len hq_o_5 hq_n_4 (Nat.ne_of_beq_eq_false rfl))
        have hr_o_5 := hr_o_5.keep k_s_8 (fun j hj => (ne_len (hr_o_5 j hj) hq_n_4 (Nat.ne_of_beq_eq_false rfl)))
        have hq_n_4 : IArr G a_n_4 5 (upd (upd (upd (fun _ => 0) (0 : Int).toNat (iI (ac))) (1 : Int).toNat (iI (no))) (2 : Int).toNat (iI (kn))) H_s_8 := hq_s_8
        refine lv_dup hx hb dX3_houseTold_106 rfl ?_
        refine xi_iconst hx hb dX3_houseTold_107 ?_
        refine lv_iload_n hx hb dX3_houseTold_108 rfl (lv_at hl 1 rfl) ?_
        refine x_iast S hK hq_n_4 (by omega) (by omega) hS (Or.inr (by omega)) dX3_houseTold_109 (fun H_s_9 locs hq_s_9 k_s_9 hz_s_9 hS => ?_)
        have kw := kw.then k_s_9 (fun q e hlt => by have e : q = a_n_4 := e; exact absurd hlt (by omega))
        have hK := hK.keep k_s_9 (fun q e => by have e : q = a_n_4 := e; omega)
        have kb_n_4 := kb_n_4.then k_s_9 (fun q e hlt => by have e : q = a_n_4 := e; exact absurd hlt (by omega))
        have hm_o_5 := hm_o_5.keep k_s_9 (ne_oa hK rfl rfl hm_o_5 hq_n_4)
        have hq_o_5 := hq_o_5.keep k_s_9 (ne_len hq_o_5 hq_n_4 (Nat.ne_of_beq_eq_false rfl))
        have hr_o_5 := hr_o_5.keep k_s_9 (fun j hj => (ne_len (hr_o_5 j hj) hq_n_4 (Nat.ne_of_beq_eq_false rfl)))
        have hq_n_4 : IArr G a_n_4 5 (upd (upd (upd (upd (fun _ => 0) (0 : Int).toNat (iI (ac))) (1 : Int).toNat (iI (no))) (2 : Int).toNat (iI (kn))) (3 : Int).toNat (iI (a))) H_s_9 := hq_s_9
        refine lv_dup hx hb dX3_houseTold_110 rfl ?_
        refine xi_iconst hx hb dX3_houseTold_111 ?_
        refine lv_iload_n hx hb dX3_houseTold_112 rfl (lv_at hl 2 rfl) ?_
        refine x_iast S hK hq_n_4 (by omega) (by omega) hS (Or.inr (by omega)) dX3_houseTold_113 (fun H_s_10 locs hq_s_10 k_s_10 hz_s_10 hS => ?_)
        have kw := kw.then k_s_10 (fun q e hlt => by have e : q = a_n_4 := e; exact absurd hlt (by omega))
        have hK := hK.keep k_s_10 (fun q e => by have e : q = a_n_4 := e; omega)
        have kb_n_4 := kb_n_4.then k_s_10 (fun q e hlt => by have e : q = a_n_4 := e; exact absurd hlt (by omega))
        have hm_o_5 := hm_o_5.keep k_s_10 (ne_oa hK rfl rfl hm_o_5 hq_n_4)
        have hq_o_5 := hq_o_5.keep k_s_10 (ne_len hq_o_5 hq_n_4 (Nat.ne_of_beq_eq_false rfl))
        have hr_o_5 := hr_o_5.keep k_s_10 (fun j hj => (ne_len (hr_o_5 j hj) hq_n_4 (Nat.ne_of_beq_eq_false rfl)))
        have hq_n_4 : IArr G a_n_4 5 (upd (upd (upd (upd (upd (fun _ => 0) (0 : Int).toNat (iI (ac))) (1 : Int).toNat (iI (no))) (2 : Int).toNat (iI (kn))) (3 : Int).toNat (iI (a))) (4 : Int).toNat (iI (b))) H_s_10 := hq_s_10
        have hq_n_4 : IArr G a_n_4 5 (fun x => iI (houseZ ac no kn cc (x : Int))) H_s_10 := ia_of hq_n_4 (fun x hx_ => by match x, hx_ with | 0, _ => rfl | 1, _ => rfl | 2, _ => rfl | 3, _ => (show iI _ = iI (cntZ (fun x => b2i ((cc x).1 = 0)) 8); rw [hna, show j.toNat = 8 by omega]) | 4, _ => (show iI _ = iI (nearsZ cc 8); rw [hnb, show j.toNat = 8 by omega]))
        refine lv_astore (lv' := [(4, .ref (a_n_4)), (2, .int (iI (a))), (3, .int (iI (b))), (0, .ref (h)), (1, .int (iI (w)))]) hx hb dX3_houseTold_114 hl (by decide) rfl (fun ls hl => ?_)
        refine lv_aload hx hb dX3_houseTold_116 (lv_at hl 0 rfl) ?_
        refine lv_iload_n hx hb dX3_houseTold_118 rfl (lv_at hl 4 rfl) ?_
        refine x_iald (w := houseZ ac no kn cc (((w).toNat : Nat) : Int)) S hK hq_n_4 (by omega) (by omega) rfl dX3_houseTold_119 ?_
        refine x_ret1i hx hb hr hlk hH hS (by omega) (by omega) ?_ dX3_houseTold_120
        show some (Value.int (iI (houseZ ac no kn cc ((w.toNat : Nat) : Int)))) = _; rw [toNat_cast (by omega)]
      · skip
        refine lv_iload_n hx hb dX3_houseTold_14 rfl (lv_at hl 1 rfl) ?_
        refine lv_aload_n hx hb dX3_houseTold_15 rfl (lv_at hl 3 rfl) ?_
        have hw_o_11 := (hw.ext kw)
        obtain ⟨rb_o_11, hm_o_11, hq_o_11, hr_o_11, hza_o_11, hzc_o_11⟩ := hw_o_11
        refine x_get S hK in_X3 hm_o_11 rfl 4 (by decide) q1152 (fun x h => h) rfl dX3_houseTold_16 ?_
        refine lv_iload hx hb dX3_houseTold_19 (lv_at hl 0 rfl) ?_
        refine x_aald S hK 3 rfl rfl hq_o_11 (by omega) (by omega) rfl dX3_houseTold_21 ?_
        have hr_w_12 := hr_o_11 (j).toNat (by omega)
        have hbw_w_12 := hbc (j).toNat (by omega)
        refine xi_iconst hx hb dX3_houseTold_22 ?_
        refine x_iald (w := (cc (j).toNat).1) S hK hr_w_12 (by omega) (by decide) rfl dX3_houseTold_23 ?_
        refine xi_if_ne (tgt := 31) hx hb dX3_houseTold_24 (by decide) (by omega) (fun c_24 => ?_) (fun c_24 => ?_)
        · skip
          refine xi_iconst hx hb dX3_houseTold_31 ?_
          refine x_c0S (as := [.int (iI (0))]) (rest := [.int (iI (a))]) S hK (c_X3_one l G H_L7 (False)  ) q1145 q1146 q43 q1147 hdX3_one ⟨by decide, by decide⟩ hl.1 rfl rfl (Nat.le_of_ble_eq_true rfl) ⟨(by show _ ≤ (1 : Nat); omega), (by show _ ≤ (5 : Nat); omega)⟩ dX3_houseTold_32 ?_
          refine xi_iadd hx hb dX3_houseTold_35 ?_
          refine lv_istore_n (lv' := [(2, .int (iI ((a) + (b2i (False))))), (4, .int (iI (j))), (3, .int (iI (b))), (0, .ref (h)), (1, .int (iI (w)))]) hx hb dX3_houseTold_36 rfl hl (by decide) rfl (fun ls hl => ?_)
          refine xi_iconst hx hb dX3_houseTold_37 ?_
          refine lv_istore (lv' := [(5, .int (iI (0))), (2, .int (iI ((a) + (b2i (False))))), (4, .int (iI (j))), (3, .int (iI (b))), (0, .ref (h)), (1, .int (iI (w)))]) hx hb dX3_houseTold_38 hl (by decide) rfl (fun ls hl => ?_)
          exact L_40 (((j - (0)).toNat) + 1) (0) ((a) + (b2i (False))) (b) (by omega) (by (first | exact hna2 | exact cnt_up hj.1 hna (by show b2i _ = b2i ((cc j.toNat).1 = 0); first | exact (b2i_1 trivial).trans (b2i_1 (by omega)).symm | exact (b2i_0 id).trans (b2i_0 (by omega)).symm))) (by (first | (rw [hnb]; exact (Int.add_zero _).symm) | (rw [hnb2, cntZ_s hi.1]; exact Int.add_assoc _ _ _))) H_L7 locs (cells_7) (slots_7) (by constructor <;> omega) kw hK hS (by omega) ls (lv_sub hl [0, 2, 1, 3, 4, 5] rfl)
        · skip
          refine xi_iconst hx hb dX3_houseTold_27 ?_
          refine lv_goto (tgt := 32) hx hb dX3_houseTold_28 (by decide) ?_
          refine x_c0S (as := [.int (iI (1))]) (rest := [.int (iI (a))]) S hK (c_X3_one l G H_L7 (True)  ) q1145 q1146 q43 q1147 hdX3_one ⟨by decide, by decide⟩ hl.1 rfl rfl (Nat.le_of_ble_eq_true rfl) ⟨(by show _ ≤ (1 : Nat); omega), (by show _ ≤ (5 : Nat); omega)⟩ dX3_houseTold_32 ?_
          refine xi_iadd hx hb dX3_houseTold_35 ?_
          refine lv_istore_n (lv' := [(2, .int (iI ((a) + (b2i (True))))), (4, .int (iI (j))), (3, .int (iI (b))), (0, .ref (h)), (1, .int (iI (w)))]) hx hb dX3_houseTold_36 rfl hl (by decide) rfl (fun ls hl => ?_)
          refine xi_iconst hx hb dX3_houseTold_37 ?_
          refine lv_istore (lv' := [(5, .int (iI (0))), (2, .int (iI ((a) + (b2i (True))))), (4, .int (iI (j))), (3, .int (iI (b))), (0, .ref (h)), (1, .int (iI (w)))]) hx hb dX3_houseTold_38 hl (by decide) rfl (fun ls hl => ?_)
          exact L_40 (((j - (0)).toNat) + 1) (0) ((a) + (b2i (True))) (b) (by omega) (by (first | exact hna2 | exact cnt_up hj.1 hna (by show b2i _ = b2i ((cc j.toNat).1 = 0); first | exact (b2i_1 trivial).trans (b2i_1 (by omega)).symm | exact (b2i_0 id).trans (b2i_0 (by omega)).symm))) (by (first | (rw [hnb]; exact (Int.add_zero _).symm) | (rw [hnb2, cntZ_s hi.1]; exact Int.add_assoc _ _ _))) H_L7 locs (cells_7) (slots_7) (by constructor <;> omega) kw hK hS (by omega) ls (lv_sub hl [0, 2, 1, 3, 4, 5] rfl)
  exact L_7 ((((8 : Int) - (0)).toNat) + 1) (0) (0) (0) (by omega) (by first | rfl | exact hna2) (by first | rfl | (rw [nearsZ_s hj.1, hnb2, show i.toNat = j.toNat by omega])) H0 [] 0 0 (by constructor <;> omega) kw hK hS (by omega) ls (lv_sub hl [0, 2, 1, 3, 4] rfl)

theorem hpX3_house : plainFor yX3_house = true := by decide +kernel
theorem hdX3_house : nMH yX3_house 1 := by decide +kernel
set_option maxHeartbeats 4000000 in
theorem c_X3_house (l : Launch) (G : GG) (H0 : Heap) (mc : Nat) (th : Int) (ac : Int) (no : Int) (kn : Int) (cc : Nat → Row) (h : Nat) (w : Int) (r_w : -2147483648 ≤ w ∧ w < 2147483648) (hac : 0 ≤ ac ∧ ac ≤ 1000) (hno : 0 ≤ no ∧ no ≤ 1000) (hkn : 0 ≤ kn ∧ kn ≤ 1000) (hok : ∀ k : Nat, k < 8 → okR (cc k)) (hw : MW G (h) (mc) (th) (ac) (no) (kn) (cc) H0) : Ct1 l G yX3_house cX3_house 2 (Option.some Jvm.ClassFile.FieldType.int) 3 1 5 66 [.ref (h), .int (iI (w))] H0 (fun q => q = h ∨ q = mc) (fun (rv : Option Value) (H1 : Heap) => ∃ z : Res, op_house kn ac no cc (w) = z ∧ rv = some (.int (iI z.2.1)) ∧ MW G h mc z.1 z.2.2.1 z.2.2.2.1 kn z.2.2.2.2 H1) := by
  refine Ct1.start hpX3_house (Nat.le_of_ble_eq_true rfl) ?_
  intro p e s m below meth c ls hx hb hr S hlk hname hH hK hS hl
  have hl : lv_has ls 2 [(0, .ref (h)), (1, .int (iI (w)))] := hl
  have hbc : ∀ k : Nat, k < 8 → bRow (cc k) := fun k h => okR_b (hok k h)
  have kw : Keep (fun q => q = h ∨ q = mc) H0 H0 := Keep.rf
  have hz0 := hK.2.2.1
  refine lv_aload_n hx hb dX3_house_0 rfl (lv_at hl 0 rfl) ?_
  refine lv_iload_n hx hb dX3_house_1 rfl (lv_at hl 1 rfl) ?_
  refine xi_i2l hx hb (by omega) dX3_house_2 ?_
  refine xi_lconst (z := 0) hx hb (by decide +kernel) dX3_house_3 ?_
  refine xi_ldc2 (z := 4) hx hb S.2.2.2.1 S.2.2.2.2 q1813 (by decide +kernel) dX3_house_4 ?_
  refine x_c0S (as := [.long (jI (w)), .long (jI (0)), .long (jI (4))]) (rest := [.ref (h)]) S hK (c_X3_isIn l G H0 (w) (0) (4) (by omega) (by omega) (by omega) ) q1177 q1178 q43 q1179 hdX3_isIn ⟨by decide, by decide⟩ hl.1 rfl rfl (Nat.le_of_ble_eq_true rfl) ⟨Nat.le_of_ble_eq_true rfl, Nat.le_of_ble_eq_true rfl⟩ dX3_house_7 ?_
  refine xi_ifb_ne (tgt := 17) hx hb dX3_house_10 (by decide) (fun c_10 => ?_) (fun c_10 => ?_)
  · skip
    refine xi_iconst hx hb dX3_house_17 ?_
    refine xi_iconst hx hb dX3_house_18 ?_
    have hw_o_1 := hw
    obtain ⟨rb_o_1, hm_o_1, hq_o_1, hr_o_1, hza_o_1, hzc_o_1⟩ := hw_o_1
    refine x_c1V (as := [.int (iI (0)), .int (iI (1))]) (rest := []) S hK hm_o_1 rfl rfl (c_X3_start l G H0 (mc) (th) (ac) (no) (kn) (cc) (h) (False) (1) (by omega) (by first | assumption | omega) (by first | assumption | omega) (by first | assumption | omega) (by assumption) (by omega) hw) q1180 q1182 qs9 q43 q1183 hdX3_start ⟨by decide, by decide⟩ hl.1 rfl rfl (Nat.le_of_ble_eq_true rfl) ⟨Nat.le_of_ble_eq_true rfl, Nat.le_of_ble_eq_true rfl⟩ hS (fun q e => Or.inl (Or.inl e)) (fun q z => Or.inr z) dX3_house_19 (fun rv_c_2 H_c_2 locs hp_c_2 k_c_2 hS => ?_)
    have kw := kw.then k_c_2 (fun q e _ => Or.inl e)
    have hK := hK.keep k_c_2 (fun q e => by have e : q = h := e; omega)
    obtain ⟨th_r_3, hth_r_3, rfl, hw_r_3⟩ := hp_c_2
    have hth_r_3 := hth_r_3.elim (fun z => z.1.elim) (fun z => z.2)
    refine W.eq (g2 := F0 m 22 ls [.int (iI (b2i (0 < (th_r_3))))]) rfl ?_
    refine xi_ifb_eq (tgt := 29) hx hb dX3_house_22 (by decide) (fun c_22 => ?_) (fun c_22 => ?_)
    · skip
      obtain rfl : th_r_3 = 0 := by omega
      refine lv_aload_n hx hb dX3_house_29 rfl (lv_at hl 0 rfl) ?_
      refine lv_iload_n hx hb dX3_house_30 rfl (lv_at hl 1 rfl) ?_
      have hw_o_4 := hw_r_3
      obtain ⟨rb_o_4, hm_o_4, hq_o_4, hr_o_4, hza_o_4, hzc_o_4⟩ := hw_o_4
      refine x_c1V (as := [.int (iI (w))]) (rest := []) S hK hm_o_4 rfl rfl (c_X3_houseTold l G H_c_2 (mc) (0) (ac) (no) (kn) (cc) (h) (w) (by omega) (by first | assumption | omega) (by first | assumption | omega) (by first | assumption | omega) (by assumption) (by omega) hw_r_3) q1814 q1816 qs37 q43 q1817 hdX3_houseTold ⟨by decide, by decide⟩ hl.1 rfl rfl (Nat.le_of_ble_eq_true rfl) ⟨Nat.le_of_ble_eq_true rfl, Nat.le_of_ble_eq_true rfl⟩ hS (fun _ z => z.elim) (fun q z => Or.inr z) dX3_house_31 (fun rv_c_5 H_c_5 locs hp_c_5 k_c_5 hS => ?_)
      have kw := kw.then k_c_5 (fun q z _ => z.elim)
      have hK := hK.ext k_c_5
      have hw_r_3 := hw_r_3.ext k_c_5
      have hm_o_4 := hm_o_4.ext k_c_5
      have hq_o_4 := hq_o_4.ext k_c_5
      have hr_o_4 := hr_o_4.ext k_c_5
      obtain rfl := hp_c_5
      refine W.eq (g2 := F0 m 34 ls [.int (iI (houseZ (ac) (no) (kn) (cc) (w)))]) rfl ?_
      refine x_ret1i hx hb hr hlk hH hS (by omega) (by omega) ?_ dX3_house_34
      first | (exfalso; omega) | exact ⟨(_, _, _, _, _), (by unfold op_house; (repeat (first | with_reducible refine ifp (by omega) ?_ | with_reducible refine ifn (by omega) ?_)); first | rfl | exact comeF_s (by assumption) | exact comeF_n (by assumption) | exact comeF_s (if_pos (by omega)) | exact comeF_n (if_neg (by omega))), rfl, ⟨rb_o_4, hm_o_4, hq_o_4, hr_o_4, hza_o_4, hzc_o_4⟩⟩
    · skip
      obtain rfl : th_r_3 = 1 := by omega
      refine xi_iconst hx hb dX3_house_25 ?_
      refine lv_goto (tgt := 34) hx hb dX3_house_26 (by decide) ?_
      refine x_ret1i hx hb hr hlk hH hS (by omega) (by omega) ?_ dX3_house_34
      first | (exfalso; omega) | exact ⟨(_, _, _, _, _), (by unfold op_house; (repeat (first | with_reducible refine ifp (by omega) ?_ | with_reducible refine ifn (by omega) ?_)); first | rfl | exact comeF_s (by assumption) | exact comeF_n (by assumption) | exact comeF_s (if_pos (by omega)) | exact comeF_n (if_neg (by omega))), rfl, hw_r_3⟩
  · skip
    refine xi_iconst hx hb dX3_house_13 ?_
    refine lv_goto (tgt := 18) hx hb dX3_house_14 (by decide) ?_
    refine xi_iconst hx hb dX3_house_18 ?_
    have hw_o_6 := hw
    obtain ⟨rb_o_6, hm_o_6, hq_o_6, hr_o_6, hza_o_6, hzc_o_6⟩ := hw_o_6
    refine x_c1V (as := [.int (iI (1)), .int (iI (1))]) (rest := []) S hK hm_o_6 rfl rfl (c_X3_start l G H0 (mc) (th) (ac) (no) (kn) (cc) (h) (True) (1) (by omega) (by first | assumption | omega) (by first | assumption | omega) (by first | assumption | omega) (by assumption) (by omega) hw) q1180 q1182 qs9 q43 q1183 hdX3_start ⟨by decide, by decide⟩ hl.1 rfl rfl (Nat.le_of_ble_eq_true rfl) ⟨Nat.le_of_ble_eq_true rfl, Nat.le_of_ble_eq_true rfl⟩ hS (fun q e => Or.inl (Or.inl e)) (fun q z => Or.inr z) dX3_house_19 (fun rv_c_7 H_c_7 locs hp_c_7 k_c_7 hS => ?_)
    have kw := kw.then k_c_7 (fun q e _ => Or.inl e)
    have hK := hK.keep k_c_7 (fun q e => by have e : q = h := e; omega)
    obtain ⟨th_r_8, hth_r_8, rfl, hw_r_8⟩ := hp_c_7
    have hth_r_8 := hth_r_8.elim (fun z => z.2) (fun z => absurd trivial z.1)
    refine W.eq (g2 := F0 m 22 ls [.int (iI (b2i (0 < (th_r_8))))]) rfl ?_
    refine xi_ifb_eq (tgt := 29) hx hb dX3_house_22 (by decide) (fun c_22 => ?_) (fun c_22 => ?_)
    · skip
      obtain rfl : th_r_8 = 0 := by omega
      refine lv_aload_n hx hb dX3_house_29 rfl (lv_at hl 0 rfl) ?_
      refine lv_iload_n hx hb dX3_house_30 rfl (lv_at hl 1 rfl) ?_
      have hw_o_9 := hw_r_8
      obtain ⟨rb_o_9, hm_o_9, hq_o_9, hr_o_9, hza_o_9, hzc_o_9⟩ := hw_o_9
      refine x_c1V (as := [.int (iI (w))]) (rest := []) S hK hm_o_9 rfl rfl (c_X3_houseTold l G H_c_7 (mc) (0) (ac) (no) (kn) (cc) (h) (w) (by omega) (by first | assumption | omega) (by first | assumption | omega) (by first | assumption | omega) (by assumption) (by omega) hw_r_8) q1814 q1816 qs37 q43 q1817 hdX3_houseTold ⟨by decide, by decide⟩ hl.1 rfl rfl (Nat.le_of_ble_eq_true rfl) ⟨Nat.le_of_ble_eq_true rfl, Nat.le_of_ble_eq_true rfl⟩ hS (fun _ z => z.elim) (fun q z => Or.inr z) dX3_house_31 (fun rv_c_10 H_c_10 locs hp_c_10 k_c_10 hS => ?_)
      have kw := kw.then k_c_10 (fun q z _ => z.elim)
      have hK := hK.ext k_c_10
      have hw_r_8 := hw_r_8.ext k_c_10
      have hm_o_9 := hm_o_9.ext k_c_10
      have hq_o_9 := hq_o_9.ext k_c_10
      have hr_o_9 := hr_o_9.ext k_c_10
      obtain rfl := hp_c_10
      refine W.eq (g2 := F0 m 34 ls [.int (iI (houseZ (ac) (no) (kn) (cc) (w)))]) rfl ?_
      refine x_ret1i hx hb hr hlk hH hS (by omega) (by omega) ?_ dX3_house_34
      first | (exfalso; omega) | exact ⟨(_, _, _, _, _), (by unfold op_house; (repeat (first | with_reducible refine ifp (by omega) ?_ | with_reducible refine ifn (by omega) ?_)); first | rfl | exact comeF_s (by assumption) | exact comeF_n (by assumption) | exact comeF_s (if_pos (by omega)) | exact comeF_n (if_neg (by omega))), rfl, ⟨rb_o_9, hm_o_9, hq_o_9, hr_o_9, hza_o_9, hzc_o_9⟩⟩
    · skip
      obtain rfl : th_r_8 = 1 := by omega
      refine xi_iconst hx hb dX3_house_25 ?_
      refine lv_goto (tgt := 34) hx hb dX3_house_26 (by decide) ?_
      refine x_ret1i hx hb hr hlk hH hS (by omega) (by omega) ?_ dX3_house_34
      first | (exfalso; omega) | exact ⟨(_, _, _, _, _), (by unfold op_house; (repeat (first | with_reducible refine ifp (by omega) ?_ | with_reducible refine ifn (by omega) ?_)); first | rfl | exact comeF_s (by assumption) | exact comeF_n (by assumption) | exact comeF_s (if_pos (by omega)) | exact comeF_n (if_neg (by omega))), rfl, hw_r_8⟩

theorem hpX3_bits : plainFor yX3_bits = true := by decide +kernel
theorem hdX3_bits : nMH yX3_bits 1 := by decide +kernel
set_option maxHeartbeats 4000000 in
theorem c_X3_bits (l : Launch) (G : GG) (H0 : Heap) (mc : Nat) (th : Int) (ac : Int) (no : Int) (kn : Int) (cc : Nat → Row) (h : Nat) (k : Int) (r_k : -2147483648 ≤ k ∧ k < 2147483648) (hac : 0 ≤ ac ∧ ac ≤ 1000) (hno : 0 ≤ no ∧ no ≤ 1000) (hkn : 0 ≤ kn ∧ kn ≤ 1000) (hok : ∀ k : Nat, k < 8 → okR (cc k)) (hk : 0 ≤ k ∧ k ≤ 7) (hw : MW G (h) (mc) (th) (ac) (no) (kn) (cc) H0) : Ct0 l G yX3_bits cX3_bits 8 (Option.some Jvm.ClassFile.FieldType.long) 2 42 [.ref (h), .int (iI (k))] H0 (.long (jI (bitsZ (cc k.toNat)))) := by
  refine Ct0.start hpX3_bits (Nat.le_of_ble_eq_true rfl) ?_
  intro p e s m below meth c ls hx hb hr S hlk hH hK hl
  have hl : lv_has ls 8 [(0, .ref (h)), (1, .int (iI (k)))] := hl
  have hbc : ∀ k : Nat, k < 8 → bRow (cc k) := fun k h => okR_b (hok k h)
  have hb1 := hbc k.toNat (by omega)
  have hl1 := lgZ_b (t := (cc k.toNat).2.1) (by omega)
  refine lv_aload_n hx hb dX3_bits_0 rfl (lv_at hl 0 rfl) ?_
  have hw_o_1 := hw
  obtain ⟨rb_o_1, hm_o_1, hq_o_1, hr_o_1, hza_o_1, hzc_o_1⟩ := hw_o_1
  refine x_get S hK in_X3 hm_o_1 rfl 4 (by decide) q1152 (fun x h => h) rfl dX3_bits_1 ?_
  refine lv_iload_n hx hb dX3_bits_4 rfl (lv_at hl 1 rfl) ?_
  refine x_aald S hK 3 rfl rfl hq_o_1 (by omega) (by omega) rfl dX3_bits_5 ?_
  have hr_w_2 := hr_o_1 (k).toNat (by omega)
  have hbw_w_2 := hbc (k).toNat (by omega)
  refine lv_astore_n (lv' := [(2, .ref ((rb_o_1) ((k).toNat))), (0, .ref (h)), (1, .int (iI (k)))]) hx hb dX3_bits_6 rfl hl (by decide) rfl (fun ls hl => ?_)
  refine lv_aload_n hx hb dX3_bits_7 rfl (lv_at hl 0 rfl) ?_
  refine xi_iconst hx hb dX3_bits_8 ?_
  refine x_iald (w := (cc (k).toNat).2.2) S hK hr_w_2 (by omega) (by decide) rfl dX3_bits_9 ?_
  refine xi_iconst hx hb dX3_bits_10 ?_
  refine xi_icmp_ne (tgt := 20) hx hb dX3_bits_11 (by decide) (by omega) (by omega) (fun c_11 => ?_) (fun c_11 => ?_)
  · skip
    refine xi_lconst (z := 0) hx hb (by decide +kernel) dX3_bits_20 ?_
    refine lv_lstore_n (lv' := [(3, .long (jI (0))), (2, .ref ((rb_o_1) ((k).toNat))), (0, .ref (h)), (1, .int (iI (k)))]) hx hb dX3_bits_21 rfl hl (by decide) rfl (fun ls hl => ?_)
    refine lv_aload_n hx hb dX3_bits_22 rfl (lv_at hl 1 rfl) ?_
    refine xi_iconst hx hb dX3_bits_23 ?_
    refine x_iald (w := (cc (k).toNat).1) S hK hr_w_2 (by omega) (by decide) rfl dX3_bits_24 ?_
    refine xi_iconst hx hb dX3_bits_25 ?_
    refine xi_icmp_ne (tgt := 35) hx hb dX3_bits_26 (by decide) (by omega) (by omega) (fun c_26 => ?_) (fun c_26 => ?_)
    · skip
      refine lv_aload_n hx hb dX3_bits_35 rfl (lv_at hl 1 rfl) ?_
      refine xi_iconst hx hb dX3_bits_36 ?_
      refine x_iald (w := (cc (k).toNat).2.1) S hK hr_w_2 (by omega) (by decide) rfl dX3_bits_37 ?_
      refine xi_if_ne (tgt := 43) hx hb dX3_bits_38 (by decide) (by omega) (fun c_38 => ?_) (fun c_38 => ?_)
      · skip
        refine lv_aload_n hx hb dX3_bits_43 rfl (lv_at hl 1 rfl) ?_
        refine xi_iconst hx hb dX3_bits_44 ?_
        refine x_iald (w := (cc (k).toNat).2.1) S hK hr_w_2 (by omega) (by decide) rfl dX3_bits_45 ?_
        refine x_c0S (as := [.int (iI ((cc (k).toNat).2.1))]) (rest := []) S hK (c_X3_halvings l G H0 ((cc (k).toNat).2.1) (by omega) (by omega) ) q1639 q1640 q43 q1641 hdX3_halvings ⟨by decide, by decide⟩ hl.1 rfl rfl (Nat.le_of_ble_eq_true rfl) ⟨Nat.le_of_ble_eq_true rfl, Nat.le_of_ble_eq_true rfl⟩ dX3_bits_46 ?_
        refine lv_istore (lv' := [(5, .int (iI (lgZ ((cc (k).toNat).2.1)))), (3, .long (jI (0))), (2, .ref ((rb_o_1) ((k).toNat))), (0, .ref (h)), (1, .int (iI (k)))]) hx hb dX3_bits_49 hl (by decide) rfl (fun ls hl => ?_)
        refine lv_aload_n hx hb dX3_bits_51 rfl (lv_at hl 2 rfl) ?_
        refine xi_iconst hx hb dX3_bits_52 ?_
        refine x_iald (w := (cc (k).toNat).2.1) S hK hr_w_2 (by omega) (by decide) rfl dX3_bits_53 ?_
        refine x_c0S (as := [.int (iI ((cc (k).toNat).2.1))]) (rest := []) S hK (c_J11_abs_2 l G H0 ((cc (k).toNat).2.1) (by omega) (by omega) ) q1642 q270 q56 q271 hdJ11_abs_2 ⟨by decide, by decide⟩ hl.1 rfl rfl (Nat.le_of_ble_eq_true rfl) ⟨Nat.le_of_ble_eq_true rfl, Nat.le_of_ble_eq_true rfl⟩ dX3_bits_54 ?_
        refine xi_i2l hx hb (by omega) dX3_bits_57 ?_
        refine xi_lconst (z := 1) hx hb (by decide +kernel) dX3_bits_58 ?_
        refine lv_iload hx hb dX3_bits_59 (lv_at hl 0 rfl) ?_
        refine xi_lshl hx hb (by omega) dX3_bits_61 ?_
        refine xi_lsub hx hb dX3_bits_62 ?_
        refine lv_lstore (lv' := [(6, .long (jI ((((cc (k).toNat).2.1).natAbs : Int) - ((1) * 2 ^ (lgZ ((cc (k).toNat).2.1)).toNat)))), (5, .int (iI (lgZ ((cc (k).toNat).2.1)))), (3, .long (jI (0))), (2, .ref ((rb_o_1) ((k).toNat))), (0, .ref (h)), (1, .int (iI (k)))]) hx hb dX3_bits_63 hl (by decide) rfl (fun ls hl => ?_)
        refine lv_lload_n hx hb dX3_bits_65 rfl (lv_at hl 2 rfl) ?_
        refine xi_ldc2 (z := 1020) hx hb S.2.2.2.1 S.2.2.2.2 q1664 (by decide +kernel) dX3_bits_66 ?_
        refine lv_iload hx hb dX3_bits_69 (lv_at hl 1 rfl) ?_
        refine xi_i2l hx hb (by omega) dX3_bits_71 ?_
        refine xi_ladd hx hb dX3_bits_72 ?_
        refine xi_bipush hx hb (by decide) dX3_bits_73 ?_
        refine xi_lshl hx hb (by omega) dX3_bits_75 ?_
        refine xi_ladd hx hb dX3_bits_76 ?_
        refine lv_lload hx hb dX3_bits_77 (lv_at hl 0 rfl) ?_
        refine xi_bipush hx hb (by decide) dX3_bits_79 ?_
        refine lv_iload hx hb dX3_bits_81 (lv_at hl 1 rfl) ?_
        refine xi_isub hx hb dX3_bits_83 ?_
        refine xi_lshl hx hb (by omega) dX3_bits_84 ?_
        refine xi_ladd hx hb dX3_bits_85 ?_
        exact x_ret0j hx hb hr hlk hH (by unfold bitsZ; (first | rw [if_pos (show (cc k.toNat).2.2 = 1 by omega)] | rw [if_neg (show ¬ (cc k.toNat).2.2 = 1 by omega)]); (first | rw [if_pos (show (cc k.toNat).1 = 1 by omega)] | (rw [if_neg (show ¬ (cc k.toNat).1 = 1 by omega)]; first | rw [if_pos (show (cc k.toNat).2.1 = 0 by omega)] | rw [if_neg (show ¬ (cc k.toNat).2.1 = 0 by omega)])); first | done | rfl | omega | (rw [Int.one_mul]; exact (Int.add_assoc _ _ _).symm)) dX3_bits_86
      · skip
        refine lv_lload_n hx hb dX3_bits_41 rfl (lv_at hl 0 rfl) ?_
        exact x_ret0j hx hb hr hlk hH (by unfold bitsZ; (first | rw [if_pos (show (cc k.toNat).2.2 = 1 by omega)] | rw [if_neg (show ¬ (cc k.toNat).2.2 = 1 by omega)]); (first | rw [if_pos (show (cc k.toNat).1 = 1 by omega)] | (rw [if_neg (show ¬ (cc k.toNat).1 = 1 by omega)]; first | rw [if_pos (show (cc k.toNat).2.1 = 0 by omega)] | rw [if_neg (show ¬ (cc k.toNat).2.1 = 0 by omega)])); first | done | rfl | omega | (rw [Int.one_mul]; exact (Int.add_assoc _ _ _).symm)) dX3_bits_42
    · skip
      refine lv_lload_n hx hb dX3_bits_29 rfl (lv_at hl 0 rfl) ?_
      refine xi_ldc2 (z := 9218868437227405312) hx hb S.2.2.2.1 S.2.2.2.2 q1663 (by decide +kernel) dX3_bits_30 ?_
      refine xi_ladd hx hb dX3_bits_33 ?_
      exact x_ret0j hx hb hr hlk hH (by unfold bitsZ; (first | rw [if_pos (show (cc k.toNat).2.2 = 1 by omega)] | rw [if_neg (show ¬ (cc k.toNat).2.2 = 1 by omega)]); (first | rw [if_pos (show (cc k.toNat).1 = 1 by omega)] | (rw [if_neg (show ¬ (cc k.toNat).1 = 1 by omega)]; first | rw [if_pos (show (cc k.toNat).2.1 = 0 by omega)] | rw [if_neg (show ¬ (cc k.toNat).2.1 = 0 by omega)])); first | done | rfl | omega | (rw [Int.one_mul]; exact (Int.add_assoc _ _ _).symm)) dX3_bits_34
  · skip
    refine xi_ldc2 (z := -9223372036854775808) hx hb S.2.2.2.1 S.2.2.2.2 q1300 (by decide +kernel) dX3_bits_14 ?_
    refine lv_goto (tgt := 21) hx hb dX3_bits_17 (by decide) ?_
    refine lv_lstore_n (lv' := [(3, .long (jI (-9223372036854775808))), (2, .ref ((rb_o_1) ((k).toNat))), (0, .ref (h)), (1, .int (iI (k)))]) hx hb dX3_bits_21 rfl hl (by decide) rfl (fun ls hl => ?_)
    refine lv_aload_n hx hb dX3_bits_22 rfl (lv_at hl 1 rfl) ?_
    refine xi_iconst hx hb dX3_bits_23 ?_
    refine x_iald (w := (cc (k).toNat).1) S hK hr_w_2 (by omega) (by decide) rfl dX3_bits_24 ?_
    refine xi_iconst hx hb dX3_bits_25 ?_
    refine xi_icmp_ne (tgt := 35) hx hb dX3_bits_26 (by decide) (by omega) (by omega) (fun c_26 => ?_) (fun c_26 => ?_)
    · skip
      refine lv_aload_n hx hb dX3_bits_35 rfl (lv_at hl 1 rfl) ?_
      refine xi_iconst hx hb dX3_bits_36 ?_
      refine x_iald (w := (cc (k).toNat).2.1) S hK hr_w_2 (by omega) (by decide) rfl dX3_bits_37 ?_
      refine xi_if_ne (tgt := 43) hx hb dX3_bits_38 (by decide) (by omega) (fun c_38 => ?_) (fun c_38 => ?_)
      · skip
        refine lv_aload_n hx hb dX3_bits_43 rfl (lv_at hl 1 rfl) ?_
        refine xi_iconst hx hb dX3_bits_44 ?_
        refine x_iald (w := (cc (k).toNat).2.1) S hK hr_w_2 (by omega) (by decide) rfl dX3_bits_45 ?_
        refine x_c0S (as := [.int (iI ((cc (k).toNat).2.1))]) (rest := []) S hK (c_X3_halvings l G H0 ((cc (k).toNat).2.1) (by omega) (by omega) ) q1639 q1640 q43 q1641 hdX3_halvings ⟨by decide, by decide⟩ hl.1 rfl rfl (Nat.le_of_ble_eq_true rfl) ⟨Nat.le_of_ble_eq_true rfl, Nat.le_of_ble_eq_true rfl⟩ dX3_bits_46 ?_
        refine lv_istore (lv' := [(5, .int (iI (lgZ ((cc (k).toNat).2.1)))), (3, .long (jI (-9223372036854775808))), (2, .ref ((rb_o_1) ((k).toNat))), (0, .ref (h)), (1, .int (iI (k)))]) hx hb dX3_bits_49 hl (by decide) rfl (fun ls hl => ?_)
        refine lv_aload_n hx hb dX3_bits_51 rfl (lv_at hl 2 rfl) ?_
        refine xi_iconst hx hb dX3_bits_52 ?_
        refine x_iald (w := (cc (k).toNat).2.1) S hK hr_w_2 (by omega) (by decide) rfl dX3_bits_53 ?_
        refine x_c0S (as := [.int (iI ((cc (k).toNat).2.1))]) (rest := []) S hK (c_J11_abs_2 l G H0 ((cc (k).toNat).2.1) (by omega) (by omega) ) q1642 q270 q56 q271 hdJ11_abs_2 ⟨by decide, by decide⟩ hl.1 rfl rfl (Nat.le_of_ble_eq_true rfl) ⟨Nat.le_of_ble_eq_true rfl, Nat.le_of_ble_eq_true rfl⟩ dX3_bits_54 ?_
        refine xi_i2l hx hb (by omega) dX3_bits_57 ?_
        refine xi_lconst (z := 1) hx hb (by decide +kernel) dX3_bits_58 ?_
        refine lv_iload hx hb dX3_bits_59 (lv_at hl 0 rfl) ?_
        refine xi_lshl hx hb (by omega) dX3_bits_61 ?_
        refine xi_lsub hx hb dX3_bits_62 ?_
        refine lv_lstore (lv' := [(6, .long (jI ((((cc (k).toNat).2.1).natAbs : Int) - ((1) * 2 ^ (lgZ ((cc (k).toNat).2.1)).toNat)))), (5, .int (iI (lgZ ((cc (k).toNat).2.1)))), (3, .long (jI (-9223372036854775808))), (2, .ref ((rb_o_1) ((k).toNat))), (0, .ref (h)), (1, .int (iI (k)))]) hx hb dX3_bits_63 hl (by decide) rfl (fun ls hl => ?_)
        refine lv_lload_n hx hb dX3_bits_65 rfl (lv_at hl 2 rfl) ?_
        refine xi_ldc2 (z := 1020) hx hb S.2.2.2.1 S.2.2.2.2 q1664 (by decide +kernel) dX3_bits_66 ?_
        refine lv_iload hx hb dX3_bits_69 (lv_at hl 1 rfl) ?_
        refine xi_i2l hx hb (by omega) dX3_bits_71 ?_
        refine xi_ladd hx hb dX3_bits_72 ?_
        refine xi_bipush hx hb (by decide) dX3_bits_73 ?_
        refine xi_lshl hx hb (by omega) dX3_bits_75 ?_
        refine xi_ladd hx hb dX3_bits_76 ?_
        refine lv_lload hx hb dX3_bits_77 (lv_at hl 0 rfl) ?_
        refine xi_bipush hx hb (by decide) dX3_bits_79 ?_
        refine lv_iload hx hb dX3_bits_81 (lv_at hl 1 rfl) ?_
        refine xi_isub hx hb dX3_bits_83 ?_
        refine xi_lshl hx hb (by omega) dX3_bits_84 ?_
        refine xi_ladd hx hb dX3_bits_85 ?_
        exact x_ret0j hx hb hr hlk hH (by unfold bitsZ; (first | rw [if_pos (show (cc k.toNat).2.2 = 1 by omega)] | rw [if_neg (show ¬ (cc k.toNat).2.2 = 1 by omega)]); (first | rw [if_pos (show (cc k.toNat).1 = 1 by omega)] | (rw [if_neg (show ¬ (cc k.toNat).1 = 1 by omega)]; first | rw [if_pos (show (cc k.toNat).2.1 = 0 by omega)] | rw [if_neg (show ¬ (cc k.toNat).2.1 = 0 by omega)])); first | done | rfl | omega | (rw [Int.one_mul]; exact (Int.add_assoc _ _ _).symm)) dX3_bits_86
      · skip
        refine lv_lload_n hx hb dX3_bits_41 rfl (lv_at hl 0 rfl) ?_
        exact x_ret0j hx hb hr hlk hH (by unfold bitsZ; (first | rw [if_pos (show (cc k.toNat).2.2 = 1 by omega)] | rw [if_neg (show ¬ (cc k.toNat).2.2 = 1 by omega)]); (first | rw [if_pos (show (cc k.toNat).1 = 1 by omega)] | (rw [if_neg (show ¬ (cc k.toNat).1 = 1 by omega)]; first | rw [if_pos (show (cc k.toNat).2.1 = 0 by omega)] | rw [if_neg (show ¬ (cc k.toNat).2.1 = 0 by omega)])); first | done | rfl | omega | (rw [Int.one_mul]; exact (Int.add_assoc _ _ _).symm)) dX3_bits_42
    · skip
      refine lv_lload_n hx hb dX3_bits_29 rfl (lv_at hl 0 rfl) ?_
      refine xi_ldc2 (z := 9218868437227405312) hx hb S.2.2.2.1 S.2.2.2.2 q1663 (by decide +kernel) dX3_bits_30 ?_
      refine xi_ladd hx hb dX3_bits_33 ?_
      exact x_ret0j hx hb hr hlk hH (by unfold bitsZ; (first | rw [if_pos (show (cc k.toNat).2.2 = 1 by omega)] | rw [if_neg (show ¬ (cc k.toNat).2.2 = 1 by omega)]); (first | rw [if_pos (show (cc k.toNat).1 = 1 by omega)] | (rw [if_neg (show ¬ (cc k.toNat).1 = 1 by omega)]; first | rw [if_pos (show (cc k.toNat).2.1 = 0 by omega)] | rw [if_neg (show ¬ (cc k.toNat).2.1 = 0 by omega)])); first | done | rfl | omega | (rw [Int.one_mul]; exact (Int.add_assoc _ _ _).symm)) dX3_bits_34

theorem hpX3_upper : plainFor yX3_upper = true := by decide +kernel
theorem hdX3_upper : nMH yX3_upper 1 := by decide +kernel
set_option maxHeartbeats 4000000 in
theorem c_X3_upper (l : Launch) (G : GG) (H0 : Heap) (mc : Nat) (th : Int) (ac : Int) (no : Int) (kn : Int) (cc : Nat → Row) (h : Nat) (k : Int) (r_k : -2147483648 ≤ k ∧ k < 2147483648) (hac : 0 ≤ ac ∧ ac ≤ 1000) (hno : 0 ≤ no ∧ no ≤ 1000) (hkn : 0 ≤ kn ∧ kn ≤ 1000) (hok : ∀ k : Nat, k < 8 → okR (cc k)) (hw : MW G (h) (mc) (th) (ac) (no) (kn) (cc) H0) : Ct1 l G yX3_upper cX3_upper 2 (Option.some Jvm.ClassFile.FieldType.int) 3 0 0 69 [.ref (h), .int (iI (k))] H0 (fun q => q = h ∨ q = mc) (fun (rv : Option Value) (H1 : Heap) => ∃ z : Res, op_upper ac no cc (k) = z ∧ rv = some (.int (iI z.2.1)) ∧ MW G h mc z.1 z.2.2.1 z.2.2.2.1 kn z.2.2.2.2 H1) := by
  refine Ct1.start hpX3_upper (Nat.le_of_ble_eq_true rfl) ?_
  intro p e s m below meth c ls hx hb hr S hlk hname hH hK hS hl
  have hl : lv_has ls 2 [(0, .ref (h)), (1, .int (iI (k)))] := hl
  have hbc : ∀ k : Nat, k < 8 → bRow (cc k) := fun k h => okR_b (hok k h)
  have kw : Keep (fun q => q = h ∨ q = mc) H0 H0 := Keep.rf
  have hz0 := hK.2.2.1
  refine lv_aload_n hx hb dX3_upper_0 rfl (lv_at hl 0 rfl) ?_
  refine lv_iload_n hx hb dX3_upper_1 rfl (lv_at hl 1 rfl) ?_
  refine x_c0S (as := [.int (iI (k))]) (rest := [.ref (h)]) S hK (c_X3_isNoCell l G H0 (k) (by first | omega | (have bz_ := bitsZ_r (hbc k.toNat (by omega)); omega)) ) q1173 q1174 q43 q1175 hdX3_isNoCell ⟨by decide, by decide⟩ hl.1 rfl rfl (Nat.le_of_ble_eq_true rfl) ⟨Nat.le_of_ble_eq_true rfl, Nat.le_of_ble_eq_true rfl⟩ dX3_upper_2 ?_
  refine xi_iconst hx hb dX3_upper_5 ?_
  have hw_o_1 := hw
  obtain ⟨rb_o_1, hm_o_1, hq_o_1, hr_o_1, hza_o_1, hzc_o_1⟩ := hw_o_1
  refine x_c1V (as := [.int (iI (b2i (¬ (0 ≤ (k) ∧ (k) ≤ 7)))), .int (iI (1))]) (rest := []) S hK hm_o_1 rfl rfl (c_X3_start l G H0 (mc) (th) (ac) (no) (kn) (cc) (h) (¬ (0 ≤ (k) ∧ (k) ≤ 7)) (1) (by first | omega | (have bz_ := bitsZ_r (hbc k.toNat (by omega)); omega)) (by first | assumption | omega) (by first | assumption | omega) (by first | assumption | omega) (by assumption) (by omega) hw) q1180 q1182 qs9 q43 q1183 hdX3_start ⟨by decide, by decide⟩ hl.1 rfl rfl (Nat.le_of_ble_eq_true rfl) ⟨Nat.le_of_ble_eq_true rfl, Nat.le_of_ble_eq_true rfl⟩ hS (fun q e => Or.inl (Or.inl e)) (fun q z => Or.inr z) dX3_upper_6 (fun rv_c_2 H_c_2 locs hp_c_2 k_c_2 hS => ?_)
  have kw := kw.then k_c_2 (fun q e _ => Or.inl e)
  have hK := hK.keep k_c_2 (fun q e => by have e : q = h := e; omega)
  obtain ⟨th_r_3, hth_r_3, rfl, hw_r_3⟩ := hp_c_2
  refine W.eq (g2 := F0 m 9 ls [.int (iI (b2i (0 < (th_r_3))))]) rfl ?_
  refine xi_ifb_ne (tgt := 25) hx hb dX3_upper_9 (by decide) (fun c_9 => ?_) (fun c_9 => ?_)
  · skip
    obtain rfl : th_r_3 = 1 := by omega
    refine xi_iconst hx hb dX3_upper_25 ?_
    refine lv_goto (tgt := 38) hx hb dX3_upper_26 (by decide) ?_
    refine x_ret1i hx hb hr hlk hH hS (by omega) (by omega) ?_ dX3_upper_38
    first | (exfalso; omega) | exact ⟨(_, _, _, _, _), (by unfold op_upper; (repeat (first | with_reducible refine ifp (by omega) ?_ | with_reducible refine ifn (by omega) ?_)); first | rfl | exact comeF_s (by assumption) | exact comeF_n (by assumption) | exact comeF_s (if_pos (by omega)) | exact comeF_n (if_neg (by omega))), rfl, hw_r_3⟩
  · skip
    obtain rfl : th_r_3 = 0 := by omega
    refine lv_aload_n hx hb dX3_upper_12 rfl (lv_at hl 0 rfl) ?_
    refine lv_aload_n hx hb dX3_upper_13 rfl (lv_at hl 0 rfl) ?_
    refine lv_iload_n hx hb dX3_upper_14 rfl (lv_at hl 1 rfl) ?_
    have hw_o_4 := hw_r_3
    obtain ⟨rb_o_4, hm_o_4, hq_o_4, hr_o_4, hza_o_4, hzc_o_4⟩ := hw_o_4
    refine x_c0V (as := [.int (iI (k))]) (rest := [.ref (h)]) S hK hm_o_4 rfl rfl (c_X3_isNotKept l G H_c_2 (mc) (0) (ac) (no) (kn) (cc) (h) (k) (by first | omega | (have bz_ := bitsZ_r (hbc k.toNat (by omega)); omega)) (by first | assumption | omega) (by first | assumption | omega) (by first | assumption | omega) (by assumption) (by omega) hw_r_3) q1655 q1657 qs32 q43 q1658 hdX3_isNotKept ⟨by decide, by decide⟩ hl.1 rfl rfl (Nat.le_of_ble_eq_true rfl) ⟨Nat.le_of_ble_eq_true rfl, Nat.le_of_ble_eq_true rfl⟩ dX3_upper_15 ?_
    refine xi_iconst hx hb dX3_upper_18 ?_
    refine x_c1V (as := [.int (iI (b2i (1 < ((cc) (k).toNat).1))), .int (iI (2))]) (rest := []) S hK hm_o_4 rfl rfl (c_X3_refuse l G H_c_2 (mc) (0) (ac) (no) (kn) (cc) (h) (1 < ((cc) (k).toNat).1) (2) (by first | omega | (have bz_ := bitsZ_r (hbc k.toNat (by omega)); omega)) (by first | assumption | omega) (by first | assumption | omega) (by first | assumption | omega) (by assumption) (by omega) (by omega) hw_r_3) q1184 q1186 qs10 q43 q1187 hdX3_refuse ⟨by decide, by decide⟩ hl.1 rfl rfl (Nat.le_of_ble_eq_true rfl) ⟨Nat.le_of_ble_eq_true rfl, Nat.le_of_ble_eq_true rfl⟩ hS (fun q e => Or.inl (Or.inl e)) (fun q z => Or.inr z) dX3_upper_19 (fun rv_c_5 H_c_5 locs hp_c_5 k_c_5 hS => ?_)
    have kw := kw.then k_c_5 (fun q e _ => Or.inl e)
    have hK := hK.keep k_c_5 (fun q e => by have e : q = h := e; omega)
    obtain ⟨th_r_6, hth_r_6, rfl, hw_r_6⟩ := hp_c_5
    refine W.eq (g2 := F0 m 22 ls [.int (iI (b2i (0 < (th_r_6))))]) rfl ?_
    refine xi_ifb_eq (tgt := 29) hx hb dX3_upper_22 (by decide) (fun c_22 => ?_) (fun c_22 => ?_)
    · skip
      obtain rfl : th_r_6 = 0 := by omega
      refine lv_aload_n hx hb dX3_upper_29 rfl (lv_at hl 0 rfl) ?_
      refine lv_iload_n hx hb dX3_upper_30 rfl (lv_at hl 1 rfl) ?_
      have hw_o_7 := hw_r_6
      obtain ⟨rb_o_7, hm_o_7, hq_o_7, hr_o_7, hza_o_7, hzc_o_7⟩ := hw_o_7
      refine x_c0V (as := [.int (iI (k))]) (rest := []) S hK hm_o_7 rfl rfl (c_X3_bits l G H_c_5 (mc) (0) (ac) (no) (kn) (cc) (h) (k) (by first | omega | (have bz_ := bitsZ_r (hbc k.toNat (by omega)); omega)) (by first | assumption | omega) (by first | assumption | omega) (by first | assumption | omega) (by assumption) (by omega) hw_r_6) q1659 q1661 qs33 q43 q1662 hdX3_bits ⟨by decide, by decide⟩ hl.1 rfl rfl (Nat.le_of_ble_eq_true rfl) ⟨Nat.le_of_ble_eq_true rfl, Nat.le_of_ble_eq_true rfl⟩ dX3_upper_31 ?_
      refine xi_bipush hx hb (by decide) dX3_upper_34 ?_
      refine xi_lshr hx hb (by first | omega | (have bz_ := bitsZ_r (hbc k.toNat (by omega)); omega)) (by first | omega | (have bz_ := bitsZ_r (hbc k.toNat (by omega)); omega)) dX3_upper_36 ?_
      refine xi_l2i hx hb dX3_upper_37 ?_
      refine x_ret1i hx hb hr hlk hH hS (by omega) (by omega) ?_ dX3_upper_38
      first | (exfalso; omega) | exact ⟨(_, _, _, _, _), (by unfold op_upper; (repeat (first | with_reducible refine ifp (by omega) ?_ | with_reducible refine ifn (by omega) ?_)); first | rfl | exact comeF_s (by assumption) | exact comeF_n (by assumption) | exact comeF_s (if_pos (by omega)) | exact comeF_n (if_neg (by omega))), rfl, ⟨rb_o_7, hm_o_7, hq_o_7, hr_o_7, hza_o_7, hzc_o_7⟩⟩
    · skip
      obtain rfl : th_r_6 = 2 := by omega
      refine xi_iconst hx hb dX3_upper_25 ?_
      refine lv_goto (tgt := 38) hx hb dX3_upper_26 (by decide) ?_
      refine x_ret1i hx hb hr hlk hH hS (by omega) (by omega) ?_ dX3_upper_38
      first | (exfalso; omega) | exact ⟨(_, _, _, _, _), (by unfold op_upper; (repeat (first | with_reducible refine ifp (by omega) ?_ | with_reducible refine ifn (by omega) ?_)); first | rfl | exact comeF_s (by assumption) | exact comeF_n (by assumption) | exact comeF_s (if_pos (by omega)) | exact comeF_n (if_neg (by omega))), rfl, hw_r_6⟩

theorem hpX3_lower : plainFor yX3_lower = true := by decide +kernel
theorem hdX3_lower : nMH yX3_lower 1 := by decide +kernel
set_option maxHeartbeats 4000000 in
theorem c_X3_lower (l : Launch) (G : GG) (H0 : Heap) (mc : Nat) (th : Int) (ac : Int) (no : Int) (kn : Int) (cc : Nat → Row) (h : Nat) (k : Int) (r_k : -2147483648 ≤ k ∧ k < 2147483648) (hac : 0 ≤ ac ∧ ac ≤ 1000) (hno : 0 ≤ no ∧ no ≤ 1000) (hkn : 0 ≤ kn ∧ kn ≤ 1000) (hok : ∀ k : Nat, k < 8 → okR (cc k)) (hw : MW G (h) (mc) (th) (ac) (no) (kn) (cc) H0) : Ct1 l G yX3_lower cX3_lower 2 (Option.some Jvm.ClassFile.FieldType.int) 3 0 0 69 [.ref (h), .int (iI (k))] H0 (fun q => q = h ∨ q = mc) (fun (rv : Option Value) (H1 : Heap) => ∃ z : Res, op_lower ac no cc (k) = z ∧ rv = some (.int (iI z.2.1)) ∧ MW G h mc z.1 z.2.2.1 z.2.2.2.1 kn z.2.2.2.2 H1) := by
  refine Ct1.start hpX3_lower (Nat.le_of_ble_eq_true rfl) ?_
  intro p e s m below meth c ls hx hb hr S hlk hname hH hK hS hl
  have hl : lv_has ls 2 [(0, .ref (h)), (1, .int (iI (k)))] := hl
  have hbc : ∀ k : Nat, k < 8 → bRow (cc k) := fun k h => okR_b (hok k h)
  have kw : Keep (fun q => q = h ∨ q = mc) H0 H0 := Keep.rf
  have hz0 := hK.2.2.1
  refine lv_aload_n hx hb dX3_lower_0 rfl (lv_at hl 0 rfl) ?_
  refine lv_iload_n hx hb dX3_lower_1 rfl (lv_at hl 1 rfl) ?_
  refine x_c0S (as := [.int (iI (k))]) (rest := [.ref (h)]) S hK (c_X3_isNoCell l G H0 (k) (by first | omega | (have bz_ := bitsZ_r (hbc k.toNat (by omega)); omega)) ) q1173 q1174 q43 q1175 hdX3_isNoCell ⟨by decide, by decide⟩ hl.1 rfl rfl (Nat.le_of_ble_eq_true rfl) ⟨Nat.le_of_ble_eq_true rfl, Nat.le_of_ble_eq_true rfl⟩ dX3_lower_2 ?_
  refine xi_iconst hx hb dX3_lower_5 ?_
  have hw_o_1 := hw
  obtain ⟨rb_o_1, hm_o_1, hq_o_1, hr_o_1, hza_o_1, hzc_o_1⟩ := hw_o_1
  refine x_c1V (as := [.int (iI (b2i (¬ (0 ≤ (k) ∧ (k) ≤ 7)))), .int (iI (1))]) (rest := []) S hK hm_o_1 rfl rfl (c_X3_start l G H0 (mc) (th) (ac) (no) (kn) (cc) (h) (¬ (0 ≤ (k) ∧ (k) ≤ 7)) (1) (by first | omega | (have bz_ := bitsZ_r (hbc k.toNat (by omega)); omega)) (by first | assumption | omega) (by first | assumption | omega) (by first | assumption | omega) (by assumption) (by omega) hw) q1180 q1182 qs9 q43 q1183 hdX3_start ⟨by decide, by decide⟩ hl.1 rfl rfl (Nat.le_of_ble_eq_true rfl) ⟨Nat.le_of_ble_eq_true rfl, Nat.le_of_ble_eq_true rfl⟩ hS (fun q e => Or.inl (Or.inl e)) (fun q z => Or.inr z) dX3_lower_6 (fun rv_c_2 H_c_2 locs hp_c_2 k_c_2 hS => ?_)
  have kw := kw.then k_c_2 (fun q e _ => Or.inl e)
  have hK := hK.keep k_c_2 (fun q e => by have e : q = h := e; omega)
  obtain ⟨th_r_3, hth_r_3, rfl, hw_r_3⟩ := hp_c_2
  refine W.eq (g2 := F0 m 9 ls [.int (iI (b2i (0 < (th_r_3))))]) rfl ?_
  refine xi_ifb_ne (tgt := 25) hx hb dX3_lower_9 (by decide) (fun c_9 => ?_) (fun c_9 => ?_)
  · skip
    obtain rfl : th_r_3 = 1 := by omega
    refine xi_iconst hx hb dX3_lower_25 ?_
    refine lv_goto (tgt := 35) hx hb dX3_lower_26 (by decide) ?_
    refine x_ret1i hx hb hr hlk hH hS (by omega) (by omega) ?_ dX3_lower_35
    first | (exfalso; omega) | exact ⟨(_, _, _, _, _), (by unfold op_lower; (repeat (first | with_reducible refine ifp (by omega) ?_ | with_reducible refine ifn (by omega) ?_)); first | rfl | exact comeF_s (by assumption) | exact comeF_n (by assumption) | exact comeF_s (if_pos (by omega)) | exact comeF_n (if_neg (by omega))), rfl, hw_r_3⟩
  · skip
    obtain rfl : th_r_3 = 0 := by omega
    refine lv_aload_n hx hb dX3_lower_12 rfl (lv_at hl 0 rfl) ?_
    refine lv_aload_n hx hb dX3_lower_13 rfl (lv_at hl 0 rfl) ?_
    refine lv_iload_n hx hb dX3_lower_14 rfl (lv_at hl 1 rfl) ?_
    have hw_o_4 := hw_r_3
    obtain ⟨rb_o_4, hm_o_4, hq_o_4, hr_o_4, hza_o_4, hzc_o_4⟩ := hw_o_4
    refine x_c0V (as := [.int (iI (k))]) (rest := [.ref (h)]) S hK hm_o_4 rfl rfl (c_X3_isNotKept l G H_c_2 (mc) (0) (ac) (no) (kn) (cc) (h) (k) (by first | omega | (have bz_ := bitsZ_r (hbc k.toNat (by omega)); omega)) (by first | assumption | omega) (by first | assumption | omega) (by first | assumption | omega) (by assumption) (by omega) hw_r_3) q1655 q1657 qs32 q43 q1658 hdX3_isNotKept ⟨by decide, by decide⟩ hl.1 rfl rfl (Nat.le_of_ble_eq_true rfl) ⟨Nat.le_of_ble_eq_true rfl, Nat.le_of_ble_eq_true rfl⟩ dX3_lower_15 ?_
    refine xi_iconst hx hb dX3_lower_18 ?_
    refine x_c1V (as := [.int (iI (b2i (1 < ((cc) (k).toNat).1))), .int (iI (2))]) (rest := []) S hK hm_o_4 rfl rfl (c_X3_refuse l G H_c_2 (mc) (0) (ac) (no) (kn) (cc) (h) (1 < ((cc) (k).toNat).1) (2) (by first | omega | (have bz_ := bitsZ_r (hbc k.toNat (by omega)); omega)) (by first | assumption | omega) (by first | assumption | omega) (by first | assumption | omega) (by assumption) (by omega) (by omega) hw_r_3) q1184 q1186 qs10 q43 q1187 hdX3_refuse ⟨by decide, by decide⟩ hl.1 rfl rfl (Nat.le_of_ble_eq_true rfl) ⟨Nat.le_of_ble_eq_true rfl, Nat.le_of_ble_eq_true rfl⟩ hS (fun q e => Or.inl (Or.inl e)) (fun q z => Or.inr z) dX3_lower_19 (fun rv_c_5 H_c_5 locs hp_c_5 k_c_5 hS => ?_)
    have kw := kw.then k_c_5 (fun q e _ => Or.inl e)
    have hK := hK.keep k_c_5 (fun q e => by have e : q = h := e; omega)
    obtain ⟨th_r_6, hth_r_6, rfl, hw_r_6⟩ := hp_c_5
    refine W.eq (g2 := F0 m 22 ls [.int (iI (b2i (0 < (th_r_6))))]) rfl ?_
    refine xi_ifb_eq (tgt := 29) hx hb dX3_lower_22 (by decide) (fun c_22 => ?_) (fun c_22 => ?_)
    · skip
      obtain rfl : th_r_6 = 0 := by omega
      refine lv_aload_n hx hb dX3_lower_29 rfl (lv_at hl 0 rfl) ?_
      refine lv_iload_n hx hb dX3_lower_30 rfl (lv_at hl 1 rfl) ?_
      have hw_o_7 := hw_r_6
      obtain ⟨rb_o_7, hm_o_7, hq_o_7, hr_o_7, hza_o_7, hzc_o_7⟩ := hw_o_7
      refine x_c0V (as := [.int (iI (k))]) (rest := []) S hK hm_o_7 rfl rfl (c_X3_bits l G H_c_5 (mc) (0) (ac) (no) (kn) (cc) (h) (k) (by first | omega | (have bz_ := bitsZ_r (hbc k.toNat (by omega)); omega)) (by first | assumption | omega) (by first | assumption | omega) (by first | assumption | omega) (by assumption) (by omega) hw_r_6) q1659 q1661 qs33 q43 q1662 hdX3_bits ⟨by decide, by decide⟩ hl.1 rfl rfl (Nat.le_of_ble_eq_true rfl) ⟨Nat.le_of_ble_eq_true rfl, Nat.le_of_ble_eq_true rfl⟩ dX3_lower_31 ?_
      refine xi_l2i hx hb dX3_lower_34 ?_
      refine x_ret1i hx hb hr hlk hH hS (by omega) (by omega) ?_ dX3_lower_35
      first | (exfalso; omega) | exact ⟨(_, _, _, _, _), (by unfold op_lower; (repeat (first | with_reducible refine ifp (by omega) ?_ | with_reducible refine ifn (by omega) ?_)); first | rfl | exact comeF_s (by assumption) | exact comeF_n (by assumption) | exact comeF_s (if_pos (by omega)) | exact comeF_n (if_neg (by omega))), rfl, ⟨rb_o_7, hm_o_7, hq_o_7, hr_o_7, hza_o_7, hzc_o_7⟩⟩
    · skip
      obtain rfl : th_r_6 = 2 := by omega
      refine xi_iconst hx hb dX3_lower_25 ?_
      refine lv_goto (tgt := 35) hx hb dX3_lower_26 (by decide) ?_
      refine x_ret1i hx hb hr hlk hH hS (by omega) (by omega) ?_ dX3_lower_35
      first | (exfalso; omega) | exact ⟨(_, _, _, _, _), (by unfold op_lower; (repeat (first | with_reducible refine ifp (by omega) ?_ | with_reducible refine ifn (by omega) ?_)); first | rfl | exact comeF_s (by assumption) | exact comeF_n (by assumption) | exact comeF_s (if_pos (by omega)) | exact comeF_n (if_neg (by omega))), rfl, hw_r_6⟩

