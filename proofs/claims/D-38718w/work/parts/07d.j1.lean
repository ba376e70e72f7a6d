set_option maxRecDepth 100000
theorem lgZ_sh {t M : Int} (n : Nat) (hM : M = 2 ^ n) (h : M ≤ t) : lgZ t = n + lgZ (t / M) := by
  have e0 : ((2 ^ n : Nat) : Int) = 2 ^ n := by rw [Int.natCast_pow]; rfl
  have p0 := Nat.two_pow_pos n
  obtain ⟨k, rfl⟩ : ∃ k : Nat, t = k := ⟨t.toNat, by omega⟩
  have h1 := lg_sh n k (by omega)
  have h2 : ((k : Int) / M).natAbs = k / 2 ^ n := by
    rw [hM, ← e0, ← Int.natCast_ediv]; rfl
  unfold lgZ
  rw [h2, show ((k : Int)).natAbs = k by omega, h1]
  omega
theorem popI_f (v : Nat) (n3 n4 n5 : Int) (h3 : n3 = v) (h0 : v ≤ 252645135) (h4 : n4 = n3 + n3 / 256) (h5 : n5 = n4 + n4 / 65536) : (((v + v / 256 + (v + v / 256) / 65536) % 64 : Nat) : Int) = n5 % 2 ^ 6 := by
  subst h3
  subst h4
  subst h5
  have e : ((2 : Int) ^ 6) = 64 := by decide
  rw [e]
  omega
theorem lgZ_b2 {t : Int} (h : 1 ≤ t ∧ t < 4) : lgZ t = t / 2 := by
  rcases (show t = 1 ∨ t = 2 ∨ t = 3 by omega) with q | q | q <;> rw [q] <;> decide
theorem fdv {x y dv : Int} (hy : 0 < y) (e : dv = x.tdiv y) : (0 ≤ x → x / y = dv) ∧ (x < 0 → y * dv = x → x / y = dv) ∧ (x < 0 → y * dv ≠ x → x / y = dv - 1) := by
  have h := Int.tdiv_eq_ediv (a := x) (b := y)
  rw [← e] at h
  refine ⟨fun h0 => ?_, fun h0 h1 => ?_, fun h0 h1 => ?_⟩
  · rw [if_pos (Or.inl h0)] at h; omega
  · rw [if_pos (Or.inr ⟨dv, h1.symm⟩)] at h; omega
  · by_cases hd : y ∣ x
    · rw [if_pos (Or.inr hd)] at h
      have h2 := Int.mul_ediv_cancel' hd
      rw [show x / y = dv by omega] at h2
      exact absurd h2 h1
    · rw [if_neg (fun z => z.elim (fun z => by omega) hd), Int.sign_eq_one_of_pos hy] at h
      omega

theorem hpJ13_numberOfLeadingZeros : plainFor yJ13_numberOfLeadingZeros = true := by decide +kernel
theorem hdJ13_numberOfLeadingZeros : nMH yJ13_numberOfLeadingZeros 1 := by decide +kernel
set_option maxHeartbeats 4000000 in
theorem c_J13_numberOfLeadingZeros (l : Launch) (G : GG) (H0 : Heap) (i : Int) (r_i : -2147483648 ≤ i ∧ i < 2147483648) : Ct0 l G yJ13_numberOfLeadingZeros cJ13_numberOfLeadingZeros 2 (Option.some Jvm.ClassFile.FieldType.int) 0 0 [.int (iI (i))] H0 (.int (iI (if i = 0 then 32 else if i < 0 then 0 else 31 - lgZ i))) := by
  refine Ct0.start hpJ13_numberOfLeadingZeros (Nat.le_of_ble_eq_true rfl) ?_
  intro p e s m below meth c ls hx hb hr S hlk hH hK hl
  have hl : lv_has ls 2 [(0, .int (iI (i)))] := hl
  refine lv_iload_n hx hb dJ13_numberOfLeadingZeros_0 rfl (lv_at hl 0 rfl) ?_
  refine xi_if_gt (tgt := 15) hx hb dJ13_numberOfLeadingZeros_1 (by decide) (by omega) (fun c_1 => ?_) (fun c_1 => ?_)
  · skip
    refine xi_bipush hx hb (by decide) dJ13_numberOfLeadingZeros_15 ?_
    refine lv_istore_n (lv' := [(1, .int (iI (31))), (0, .int (iI (i)))]) hx hb dJ13_numberOfLeadingZeros_17 rfl hl (by decide) rfl (fun ls hl => ?_)
    refine lv_iload_n hx hb dJ13_numberOfLeadingZeros_18 rfl (lv_at hl 1 rfl) ?_
    refine xi_ldc_w (z := 65536) hx hb S.2.2.2.1 S.2.2.2.2 q1442 (by decide +kernel) dJ13_numberOfLeadingZeros_19 ?_
    refine xi_icmp_lt (tgt := 33) hx hb dJ13_numberOfLeadingZeros_22 (by decide) (by omega) (by omega) (fun c_22 => ?_) (fun c_22 => ?_)
    · skip
      refine lv_iload_n hx hb dJ13_numberOfLeadingZeros_33 rfl (lv_at hl 1 rfl) ?_
      refine xi_sipush hx hb (by decide) dJ13_numberOfLeadingZeros_34 ?_
      refine xi_icmp_lt (tgt := 48) hx hb dJ13_numberOfLeadingZeros_37 (by decide) (by omega) (by omega) (fun c_37 => ?_) (fun c_37 => ?_)
      · skip
        refine lv_iload_n hx hb dJ13_numberOfLeadingZeros_48 rfl (lv_at hl 1 rfl) ?_
        refine xi_bipush hx hb (by decide) dJ13_numberOfLeadingZeros_49 ?_
        refine xi_icmp_lt (tgt := 61) hx hb dJ13_numberOfLeadingZeros_51 (by decide) (by omega) (by omega) (fun c_51 => ?_) (fun c_51 => ?_)
        · skip
          refine lv_iload_n hx hb dJ13_numberOfLeadingZeros_61 rfl (lv_at hl 1 rfl) ?_
          refine xi_iconst hx hb dJ13_numberOfLeadingZeros_62 ?_
          refine xi_icmp_lt (tgt := 73) hx hb dJ13_numberOfLeadingZeros_63 (by decide) (by omega) (by omega) (fun c_63 => ?_) (fun c_63 => ?_)
          · skip
            refine lv_iload_n hx hb dJ13_numberOfLeadingZeros_73 rfl (lv_at hl 0 rfl) ?_
            refine lv_iload_n hx hb dJ13_numberOfLeadingZeros_74 rfl (lv_at hl 1 rfl) ?_
            refine xi_iconst hx hb dJ13_numberOfLeadingZeros_75 ?_
            refine xi_iushrL 2 hx hb (by decide) (by decide) dJ13_numberOfLeadingZeros_76 ?_
            refine xi_isub hx hb dJ13_numberOfLeadingZeros_77 ?_
            exact x_ret0i hx hb hr hlk hH (by (repeat (first | with_reducible refine ifp (by omega) ?_ | with_reducible refine ifn (by omega) ?_)); first | rfl | omega | (have gb_ := lgZ_b2 (t := i) (by omega); omega)) dJ13_numberOfLeadingZeros_78
          · skip
            refine xi_iinc (lv' := [(1, .int (iI (31 + (-2)))), (0, .int (iI (i)))]) hx hb dJ13_numberOfLeadingZeros_66 hl (k := 0) rfl (by decide) rfl (fun ls hl => ?_)
            refine lv_iload_n hx hb dJ13_numberOfLeadingZeros_69 rfl (lv_at hl 1 rfl) ?_
            refine xi_iconst hx hb dJ13_numberOfLeadingZeros_70 ?_
            refine xi_iushrL 4 hx hb (by decide) (by decide) dJ13_numberOfLeadingZeros_71 ?_
            refine xi_name (fun w_1 e_w_1 => ?_)
            have e2_w_1 : w_1 = (i) / 4 := by omega
            have g_w_1 : lgZ (i) = 2 + lgZ w_1 := by rw [e2_w_1]; exact lgZ_sh 2 (by decide) (by omega)
            refine lv_istore_n (lv' := [(0, .int (iI (w_1))), (1, .int (iI (31 + (-2))))]) hx hb dJ13_numberOfLeadingZeros_72 rfl hl (by decide) rfl (fun ls hl => ?_)
            refine lv_iload_n hx hb dJ13_numberOfLeadingZeros_73 rfl (lv_at hl 1 rfl) ?_
            refine lv_iload_n hx hb dJ13_numberOfLeadingZeros_74 rfl (lv_at hl 0 rfl) ?_
            refine xi_iconst hx hb dJ13_numberOfLeadingZeros_75 ?_
            refine xi_iushrL 2 hx hb (by decide) (by decide) dJ13_numberOfLeadingZeros_76 ?_
            refine xi_isub hx hb dJ13_numberOfLeadingZeros_77 ?_
            exact x_ret0i hx hb hr hlk hH (by (repeat (first | with_reducible refine ifp (by omega) ?_ | with_reducible refine ifn (by omega) ?_)); first | rfl | omega | (have gb_ := lgZ_b2 (t := w_1) (by omega); omega)) dJ13_numberOfLeadingZeros_78
        · skip
          refine xi_iinc (lv' := [(1, .int (iI (31 + (-4)))), (0, .int (iI (i)))]) hx hb dJ13_numberOfLeadingZeros_54 hl (k := 0) rfl (by decide) rfl (fun ls hl => ?_)
          refine lv_iload_n hx hb dJ13_numberOfLeadingZeros_57 rfl (lv_at hl 1 rfl) ?_
          refine xi_iconst hx hb dJ13_numberOfLeadingZeros_58 ?_
          refine xi_iushrL 16 hx hb (by decide) (by decide) dJ13_numberOfLeadingZeros_59 ?_
          refine xi_name (fun w_2 e_w_2 => ?_)
          have e2_w_2 : w_2 = (i) / 16 := by omega
          have g_w_2 : lgZ (i) = 4 + lgZ w_2 := by rw [e2_w_2]; exact lgZ_sh 4 (by decide) (by omega)
          refine lv_istore_n (lv' := [(0, .int (iI (w_2))), (1, .int (iI (31 + (-4))))]) hx hb dJ13_numberOfLeadingZeros_60 rfl hl (by decide) rfl (fun ls hl => ?_)
          refine lv_iload_n hx hb dJ13_numberOfLeadingZeros_61 rfl (lv_at hl 0 rfl) ?_
          refine xi_iconst hx hb dJ13_numberOfLeadingZeros_62 ?_
          refine xi_icmp_lt (tgt := 73) hx hb dJ13_numberOfLeadingZeros_63 (by decide) (by omega) (by omega) (fun c_63 => ?_) (fun c_63 => ?_)
          · skip
            refine lv_iload_n hx hb dJ13_numberOfLeadingZeros_73 rfl (lv_at hl 1 rfl) ?_
            refine lv_iload_n hx hb dJ13_numberOfLeadingZeros_74 rfl (lv_at hl 0 rfl) ?_
            refine xi_iconst hx hb dJ13_numberOfLeadingZeros_75 ?_
            refine xi_iushrL 2 hx hb (by decide) (by decide) dJ13_numberOfLeadingZeros_76 ?_
            refine xi_isub hx hb dJ13_numberOfLeadingZeros_77 ?_
            exact x_ret0i hx hb hr hlk hH (by (repeat (first | with_reducible refine ifp (by omega) ?_ | with_reducible refine ifn (by omega) ?_)); first | rfl | omega | (have gb_ := lgZ_b2 (t := w_2) (by omega); omega)) dJ13_numberOfLeadingZeros_78
          · skip
            refine xi_iinc (lv' := [(1, .int (iI ((31 + (-4)) + (-2)))), (0, .int (iI (w_2)))]) hx hb dJ13_numberOfLeadingZeros_66 hl (k := 1) rfl (by decide) rfl (fun ls hl => ?_)
            refine lv_iload_n hx hb dJ13_numberOfLeadingZeros_69 rfl (lv_at hl 1 rfl) ?_
            refine xi_iconst hx hb dJ13_numberOfLeadingZeros_70 ?_
            refine xi_iushrL 4 hx hb (by decide) (by decide) dJ13_numberOfLeadingZeros_71 ?_
            refine xi_name (fun w_3 e_w_3 => ?_)
            have e2_w_3 : w_3 = (w_2) / 4 := by omega
            have g_w_3 : lgZ (w_2) = 2 + lgZ w_3 := by rw [e2_w_3]; exact lgZ_sh 2 (by decide) (by omega)
            refine lv_istore_n (lv' := [(0, .int (iI (w_3))), (1, .int (iI ((31 + (-4)) + (-2))))]) hx hb dJ13_numberOfLeadingZeros_72 rfl hl (by decide) rfl (fun ls hl => ?_)
            refine lv_iload_n hx hb dJ13_numberOfLeadingZeros_73 rfl (lv_at hl 1 rfl) ?_
            refine lv_iload_n hx hb dJ13_numberOfLeadingZeros_74 rfl (lv_at hl 0 rfl) ?_
            refine xi_iconst hx hb dJ13_numberOfLeadingZeros_75 ?_
            refine xi_iushrL 2 hx hb (by decide) (by decide) dJ13_numberOfLeadingZeros_76 ?_
            refine xi_isub hx hb dJ13_numberOfLeadingZeros_77 ?_
            exact x_ret0i hx hb hr hlk hH (by (repeat (first | with_reducible refine ifp (by omega) ?_ | with_reducible refine ifn (by omega) ?_)); first | rfl | omega | (have gb_ := lgZ_b2 (t := w_3) (by omega); omega)) dJ13_numberOfLeadingZeros_78
      · skip
        refine xi_iinc (lv' := [(1, .int (iI (31 + (-8)))), (0, .int (iI (i)))]) hx hb dJ13_numberOfLeadingZeros_40 hl (k := 0) rfl (by decide) rfl (fun ls hl => ?_)
        refine lv_iload_n hx hb dJ13_numberOfLeadingZeros_43 rfl (lv_at hl 1 rfl) ?_
        refine xi_bipush hx hb (by decide) dJ13_numberOfLeadingZeros_44 ?_
        refine xi_iushrL 256 hx hb (by decide) (by decide) dJ13_numberOfLeadingZeros_46 ?_
        refine xi_name (fun w_4 e_w_4 => ?_)
        have e2_w_4 : w_4 = (i) / 256 := by omega
        have g_w_4 : lgZ (i) = 8 + lgZ w_4 := by rw [e2_w_4]; exact lgZ_sh 8 (by decide) (by omega)
        refine lv_istore_n (lv' := [(0, .int (iI (w_4))), (1, .int (iI (31 + (-8))))]) hx hb dJ13_numberOfLeadingZeros_47 rfl hl (by decide) rfl (fun ls hl => ?_)
        refine lv_iload_n hx hb dJ13_numberOfLeadingZeros_48 rfl (lv_at hl 0 rfl) ?_
        refine xi_bipush hx hb (by decide) dJ13_numberOfLeadingZeros_49 ?_
        refine xi_icmp_lt (tgt := 61) hx hb dJ13_numberOfLeadingZeros_51 (by decide) (by omega) (by omega) (fun c_51 => ?_) (fun c_51 => ?_)
        · skip
          refine lv_iload_n hx hb dJ13_numberOfLeadingZeros_61 rfl (lv_at hl 0 rfl) ?_
          refine xi_iconst hx hb dJ13_numberOfLeadingZeros_62 ?_
          refine xi_icmp_lt (tgt := 73) hx hb dJ13_numberOfLeadingZeros_63 (by decide) (by omega) (by omega) (fun c_63 => ?_) (fun c_63 => ?_)
          · skip
            refine lv_iload_n hx hb dJ13_numberOfLeadingZeros_73 rfl (lv_at hl 1 rfl) ?_
            refine lv_iload_n hx hb dJ13_numberOfLeadingZeros_74 rfl (lv_at hl 0 rfl) ?_
            refine xi_iconst hx hb dJ13_numberOfLeadingZeros_75 ?_
            refine xi_iushrL 2 hx hb (by decide) (by decide) dJ13_numberOfLeadingZeros_76 ?_
            refine xi_isub hx hb dJ13_numberOfLeadingZeros_77 ?_
            exact x_ret0i hx hb hr hlk hH (by (repeat (first | with_reducible refine ifp (by omega) ?_ | with_reducible refine ifn (by omega) ?_)); first | rfl | omega | (have gb_ := lgZ_b2 (t := w_4) (by omega); omega)) dJ13_numberOfLeadingZeros_78
          · skip
            refine xi_iinc (lv' := [(1, .int (iI ((31 + (-8)) + (-2)))), (0, .int (iI (w_4)))]) hx hb dJ13_numberOfLeadingZeros_66 hl (k := 1) rfl (by decide) rfl (fun ls hl => ?_)
            refine lv_iload_n hx hb dJ13_numberOfLeadingZeros_69 rfl (lv_at hl 1 rfl) ?_
            refine xi_iconst hx hb dJ13_numberOfLeadingZeros_70 ?_
            refine xi_iushrL 4 hx hb (by decide) (by decide) dJ13_numberOfLeadingZeros_71 ?_
            refine xi_name (fun w_5 e_w_5 => ?_)
            have e2_w_5 : w_5 = (w_4) / 4 := by omega
            have g_w_5 : lgZ (w_4) = 2 + lgZ w_5 := by rw [e2_w_5]; exact lgZ_sh 2 (by decide) (by omega)
            refine lv_istore_n (lv' := [(0, .int (iI (w_5))), (1, .int (iI ((31 + (-8)) + (-2))))]) hx hb dJ13_numberOfLeadingZeros_72 rfl hl (by decide) rfl (fun ls hl => ?_)
            refine lv_iload_n hx hb dJ13_numberOfLeadingZeros_73 rfl (lv_at hl 1 rfl) ?_
            refine lv_iload_n hx hb dJ13_numberOfLeadingZeros_74 rfl (lv_at hl 0 rfl) ?_
            refine xi_iconst hx hb dJ13_numberOfLeadingZeros_75 ?_
            refine xi_iushrL 2 hx hb (by decide) (by decide) dJ13_numberOfLeadingZeros_76 ?_
            refine xi_isub hx hb dJ13_numberOfLeadingZeros_77 ?_
            exact x_ret0i hx hb hr hlk hH (by (repeat (first | with_reducible refine ifp (by omega) ?_ | with_reducible refine ifn (by omega) ?_)); first | rfl | omega | (have gb_ := lgZ_b2 (t := w_5) (by omega); omega)) dJ13_numberOfLeadingZeros_78
        · skip
          refine xi_iinc (lv' := [(1, .int (iI ((31 + (-8)) + (-4)))), (0, .int (iI (w_4)))]) hx hb dJ13_numberOfLeadingZeros_54 hl (k := 1) rfl (by decide) rfl (fun ls hl => ?_)
          refine lv_iload_n hx hb dJ13_numberOfLeadingZeros_57 rfl (lv_at hl 1 rfl) ?_
          refine xi_iconst hx hb dJ13_numberOfLeadingZeros_58 ?_
          refine xi_iushrL 16 hx hb (by decide) (by decide) dJ13_numberOfLeadingZeros_59 ?_
          refine xi_name (fun w_6 e_w_6 => ?_)
          have e2_w_6 : w_6 = (w_4) / 16 := by omega
          have g_w_6 : lgZ (w_4) = 4 + lgZ w_6 := by rw [e2_w_6]; exact lgZ_sh 4 (by decide) (by omega)
          refine lv_istore_n (lv' := [(0, .int (iI (w_6))), (1, .int (iI ((31 + (-8)) + (-4))))]) hx hb dJ13_numberOfLeadingZeros_60 rfl hl (by decide) rfl (fun ls hl => ?_)
          refine lv_iload_n hx hb dJ13_numberOfLeadingZeros_61 rfl (lv_at hl 0 rfl) ?_
          refine xi_iconst hx hb dJ13_numberOfLeadingZeros_62 ?_
          refine xi_icmp_lt (tgt := 73) hx hb dJ13_numberOfLeadingZeros_63 (by decide) (by omega) (by omega) (fun c_63 => ?_) (fun c_63 => ?_)
          · skip
            refine lv_iload_n hx hb dJ13_numberOfLeadingZeros_73 rfl (lv_at hl 1 rfl) ?_
            refine lv_iload_n hx hb dJ13_numberOfLeadingZeros_74 rfl (lv_at hl 0 rfl) ?_
            refine xi_iconst hx hb dJ13_numberOfLeadingZeros_75 ?_
            refine xi_iushrL 2 hx hb (by decide) (by decide) dJ13_numberOfLeadingZeros_76 ?_
            refine xi_isub hx hb dJ13_numberOfLeadingZeros_77 ?_
            exact x_ret0i hx hb hr hlk hH (by (repeat (first | with_reducible refine ifp (by omega) ?_ | with_reducible refine ifn (by omega) ?_)); first | rfl | omega | (have gb_ := lgZ_b2 (t := w_6) (by omega); omega)) dJ13_numberOfLeadingZeros_78
          · skip
            refine xi_iinc (lv' := [(1, .int (iI (((31 + (-8)) + (-4)) + (-2)))), (0, .int (iI (w_6)))]) hx hb dJ13_numberOfLeadingZeros_66 hl (k := 1) rfl (by decide) rfl (fun ls hl => ?_)
            refine lv_iload_n hx hb dJ13_numberOfLeadingZeros_69 rfl (lv_at hl 1 rfl) ?_
            refine xi_iconst hx hb dJ13_numberOfLeadingZeros_70 ?_
            refine xi_iushrL 4 hx hb (by decide) (by decide) dJ13_numberOfLeadingZeros_71 ?_
            refine xi_name (fun w_7 e_w_7 => ?_)
            have e2_w_7 : w_7 = (w_6) / 4 := by omega
            have g_w_7 : lgZ (w_6) = 2 + lgZ w_7 := by rw [e2_w_7]; exact lgZ_sh 2 (by decide) (by omega)
            refine lv_istore_n (lv' := [(0, .int (iI (w_7))), (1, .int (iI (((31 + (-8)) + (-4)) + (-2))))]) hx hb dJ13_numberOfLeadingZeros_72 rfl hl (by decide) rfl (fun ls hl => ?_)
            refine lv_iload_n hx hb dJ13_numberOfLeadingZeros_73 rfl (lv_at hl 1 rfl) ?_
            refine lv_iload_n hx hb dJ13_numberOfLeadingZeros_74 rfl (lv_at hl 0 rfl) ?_
            refine xi_iconst hx hb dJ13_numberOfLeadingZeros_75 ?_
            refine xi_iushrL 2 hx hb (by decide) (by decide) dJ13_numberOfLeadingZeros_76 ?_
            refine xi_isub hx hb dJ13_numberOfLeadingZeros_77 ?_
            exact x_ret0i hx hb hr hlk hH (by (repeat (first | with_reducible refine ifp (by omega) ?_ | with_reducible refine ifn (by omega) ?_)); first | rfl | omega | (have gb_ := lgZ_b2 (t := w_7) (by omega); omega)) dJ13_numberOfLeadingZeros_78
    · skip
      refine xi_iinc (lv' := [(1, .int (iI (31 + (-16)))), (0, .int (iI (i)))]) hx hb dJ13_numberOfLeadingZeros_25 hl (k := 0) rfl (by decide) rfl (fun ls hl => ?_)
      refine lv_iload_n hx hb dJ13_numberOfLeadingZeros_28 rfl (lv_at hl 1 rfl) ?_
      refine xi_bipush hx hb (by decide) dJ13_numberOfLeadingZeros_29 ?_
      refine xi_iushrL 65536 hx hb (by decide) (by decide) dJ13_numberOfLeadingZeros_31 ?_
      refine xi_name (fun w_8 e_w_8 => ?_)
      have e2_w_8 : w_8 = (i) / 65536 := by omega
      have g_w_8 : lgZ (i) = 16 + lgZ w_8 := by rw [e2_w_8]; exact lgZ_sh 16 (by decide) (by omega)
      refine lv_istore_n (lv' := [(0, .int (iI (w_8))), (1, .int (iI (31 + (-16))))]) hx hb dJ13_numberOfLeadingZeros_32 rfl hl (by decide) rfl (fun ls hl => ?_)
      refine lv_iload_n hx hb dJ13_numberOfLeadingZeros_33 rfl (lv_at hl 0 rfl) ?_
      refine xi_sipush hx hb (by decide) dJ13_numberOfLeadingZeros_34 ?_
      refine xi_icmp_lt (tgt := 48) hx hb dJ13_numberOfLeadingZeros_37 (by decide) (by omega) (by omega) (fun c_37 => ?_) (fun c_37 => ?_)
      · skip
        refine lv_iload_n hx hb dJ13_numberOfLeadingZeros_48 rfl (lv_at hl 0 rfl) ?_
        refine xi_bipush hx hb (by decide) dJ13_numberOfLeadingZeros_49 ?_
        refine xi_icmp_lt (tgt := 61) hx hb dJ13_numberOfLeadingZeros_51 (by decide) (by omega) (by omega) (fun c_51 => ?_) (fun c_51 => ?_)
        · skip
          refine lv_iload_n hx hb dJ13_numberOfLeadingZeros_61 rfl (lv_at hl 0 rfl) ?_
          refine xi_iconst hx hb dJ13_numberOfLeadingZeros_62 ?_
          refine xi_icmp_lt (tgt := 73) hx hb dJ13_numberOfLeadingZeros_63 (by decide) (by omega) (by omega) (fun c_63 => ?_) (fun c_63 => ?_)
          · skip
            refine lv_iload_n hx hb dJ13_numberOfLeadingZeros_73 rfl (lv_at hl 1 rfl) ?_
            refine lv_iload_n hx hb dJ13_numberOfLeadingZeros_74 rfl (lv_at hl 0 rfl) ?_
            refine xi_iconst hx hb dJ13_numberOfLeadingZeros_75 ?_
            refine xi_iushrL 2 hx hb (by decide) (by decide) dJ13_numberOfLeadingZeros_76 ?_
            refine xi_isub hx hb dJ13_numberOfLeadingZeros_77 ?_
            exact x_ret0i hx hb hr hlk hH (by (repeat (first | with_reducible refine ifp (by omega) ?_ | with_reducible refine ifn (by omega) ?_)); first | rfl | omega | (have gb_ := lgZ_b2 (t := w_8) (by omega); omega)) dJ13_numberOfLeadingZeros_78
          · skip
            refine xi_iinc (lv' := [(1, .int (iI ((31 + (-16)) + (-2)))), (0, .int (iI (w_8)))]) hx hb dJ13_numberOfLeadingZeros_66 hl (k := 1) rfl (by decide) rfl (fun ls hl => ?_)
            refine lv_iload_n hx hb dJ13_numberOfLeadingZeros_69 rfl (lv_at hl 1 rfl) ?_
            refine xi_iconst hx hb dJ13_numberOfLeadingZeros_70 ?_
            refine xi_iushrL 4 hx hb (by decide) (by decide) dJ13_numberOfLeadingZeros_71 ?_
            refine xi_name (fun w_9 e_w_9 => ?_)
            have e2_w_9 : w_9 = (w_8) / 4 := by omega
            have g_w_9 : lgZ (w_8) = 2 + lgZ w_9 := by rw [e2_w_9]; exact lgZ_sh 2 (by decide) (by omega)
            refine lv_istore_n (lv' := [(0, .int (iI (w_9))), (1, .int (iI ((31 + (-16)) + (-2))))]) hx hb dJ13_numberOfLeadingZeros_72 rfl hl (by decide) rfl (fun ls hl => ?_)
            refine lv_iload_n hx hb dJ13_numberOfLeadingZeros_73 rfl (lv_at hl 1 rfl) ?_
            refine lv_iload_n hx hb dJ13_numberOfLeadingZeros_74 rfl (lv_at hl 0 rfl) ?_
            refine xi_iconst hx hb dJ13_numberOfLeadingZeros_75 ?_
            refine xi_iushrL 2 hx hb (by decide) (by decide) dJ13_numberOfLeadingZeros_76 ?_
            refine xi_isub hx hb dJ13_numberOfLeadingZeros_77 ?_
            exact x_ret0i hx hb hr hlk hH (by (repeat (first | with_reducible refine ifp (by omega) ?_ | with_reducible refine ifn (by omega) ?_)); first | rfl | omega | (have gb_ := lgZ_b2 (t := w_9) (by omega); omega)) dJ13_numberOfLeadingZeros_78
        · skip
          refine xi_iinc (lv' := [(1, .int (iI ((31 + (-16)) + (-4)))), (0, .int (iI (w_8)))]) hx hb dJ13_numberOfLeadingZeros_54 hl (k := 1) rfl (by decide) rfl (fun ls hl => ?_)
          refine lv_iload_n hx hb dJ13_numberOfLeadingZeros_57 rfl (lv_at hl 1 rfl) ?_
          refine xi_iconst hx hb dJ13_numberOfLeadingZeros_58 ?_
          refine xi_iushrL 16 hx hb (by decide) (by decide) dJ13_numberOfLeadingZeros_59 ?_
          refine xi_name (fun w_10 e_w_10 => ?_)
          have e2_w_10 : w_10 = (w_8) / 16 := by omega
          have g_w_10 : lgZ (w_8) = 4 + lgZ w_10 := by rw [e2_w_10]; exact lgZ_sh 4 (by decide) (by omega)
          refine lv_istore_n (lv' := [(0, .int (iI (w_10))), (1, .int (iI ((31 + (-16)) + (-4))))]) hx hb dJ13_numberOfLeadingZeros_60 rfl hl (by decide) rfl (fun ls hl => ?_)
          refine lv_iload_n hx hb dJ13_numberOfLeadingZeros_61 rfl (lv_at hl 0 rfl) ?_
          refine xi_iconst hx hb dJ13_numberOfLeadingZeros_62 ?_
          refine xi_icmp_lt (tgt := 73) hx hb dJ13_numberOfLeadingZeros_63 (by decide) (by omega) (by omega) (fun c_63 => ?_) (fun c_63 => ?_)
          · skip
            refine lv_iload_n hx hb dJ13_numberOfLeadingZeros_73 rfl (lv_at hl 1 rfl) ?_
            refine lv_iload_n hx hb dJ13_numberOfLeadingZeros_74 rfl (lv_at hl 0 rfl) ?_
            refine xi_iconst hx hb dJ13_numberOfLeadingZeros_75 ?_
            refine xi_iushrL 2 hx hb (by decide) (by decide) dJ13_numberOfLeadingZeros_76 ?_
            refine xi_isub hx hb dJ13_numberOfLeadingZeros_77 ?_
            exact x_ret0i hx hb hr hlk hH (by (repeat (first | with_reducible refine ifp (by omega) ?_ | with_reducible refine ifn (by omega) ?_)); first | rfl | omega | (have gb_ := lgZ_b2 (t := w_10) (by omega); omega)) dJ13_numberOfLeadingZeros_78
          · skip
            refine xi_iinc (lv' := [(1, .int (iI (((31 + (-16)) + (-4)) + (-2)))), (0, .int (iI (w_10)))]) hx hb dJ13_numberOfLeadingZeros_66 hl (k := 1) rfl (by decide) rfl (fun ls hl => ?_)
            refine lv_iload_n hx hb dJ13_numberOfLeadingZeros_69 rfl (lv_at hl 1 rfl) ?_
            refine xi_iconst hx hb dJ13_numberOfLeadingZeros_70 ?_
            refine xi_iushrL 4 hx hb (by decide) (by decide) dJ13_numberOfLeadingZeros_71 ?_
            refine xi_name (fun w_11 e_w_11 => ?_)
            have e2_w_11 : w_11 = (w_10) / 4 := by omega
            have g_w_11 : lgZ (w_10) = 2 + lgZ w_11 := by rw [e2_w_11]; exact lgZ_sh 2 (by decide) (by omega)
            refine lv_istore_n (lv' := [(0, .int (iI (w_11))), (1, .int (iI (((31 + (-16)) + (-4)) + (-2))))]) hx hb dJ13_numberOfLeadingZeros_72 rfl hl (by decide) rfl (fun ls hl => ?_)
            refine lv_iload_n hx hb dJ13_numberOfLeadingZeros_73 rfl (lv_at hl 1 rfl) ?_
            refine lv_iload_n hx hb dJ13_numberOfLeadingZeros_74 rfl (lv_at hl 0 rfl) ?_
            refine xi_iconst hx hb dJ13_numberOfLeadingZeros_75 ?_
            refine xi_iushrL 2 hx hb (by decide) (by decide) dJ13_numberOfLeadingZeros_76 ?_
            refine xi_isub hx hb dJ13_numberOfLeadingZeros_77 ?_
            exact x_ret0i hx hb hr hlk hH (by (repeat (first | with_reducible refine ifp (by omega) ?_ | with_reducible refine ifn (by omega) ?_)); first | rfl | omega | (have gb_ := lgZ_b2 (t := w_11) (by omega); omega)) dJ13_numberOfLeadingZeros_78
      · skip
        refine xi_iinc (lv' := [(1, .int (iI ((31 + (-16)) + (-8)))), (0, .int (iI (w_8)))]) hx hb dJ13_numberOfLeadingZeros_40 hl (k := 1) rfl (by decide) rfl (fun ls hl => ?_)
        refine lv_iload_n hx hb dJ13_numberOfLeadingZeros_43 rfl (lv_at hl 1 rfl) ?_
        refine xi_bipush hx hb (by decide) dJ13_numberOfLeadingZeros_44 ?_
        refine xi_iushrL 256 hx hb (by decide) (by decide) dJ13_numberOfLeadingZeros_46 ?_
        refine xi_name (fun w_12 e_w_12 => ?_)
        have e2_w_12 : w_12 = (w_8) / 256 := by omega
        have g_w_12 : lgZ (w_8) = 8 + lgZ w_12 := by rw [e2_w_12]; exact lgZ_sh 8 (by decide) (by omega)
        refine lv_istore_n (lv' := [(0, .int (iI (w_12))), (1, .int (iI ((31 + (-16)) + (-8))))]) hx hb dJ13_numberOfLeadingZeros_47 rfl hl (by decide) rfl (fun ls hl => ?_)
        refine lv_iload_n hx hb dJ13_numberOfLeadingZeros_48 rfl (lv_at hl 0 rfl) ?_
        refine xi_bipush hx hb (by decide) dJ13_numberOfLeadingZeros_49 ?_
        refine xi_icmp_lt (tgt := 61) hx hb dJ13_numberOfLeadingZeros_51 (by decide) (by omega) (by omega) (fun c_51 => ?_) (fun c_51 => ?_)
        · skip
          refine lv_iload_n hx hb dJ13_numberOfLeadingZeros_61 rfl (lv_at hl 0 rfl) ?_
          refine xi_iconst hx hb dJ13_numberOfLeadingZeros_62 ?_
          refine xi_icmp_lt (tgt := 73) hx hb dJ13_numberOfLeadingZeros_63 (by decide) (by omega) (by omega) (fun c_63 => ?_) (fun c_63 => ?_)
          · skip
            refine lv_iload_n hx hb dJ13_numberOfLeadingZeros_73 rfl (lv_at hl 1 rfl) ?_
            refine lv_iload_n hx hb dJ13_numberOfLeadingZeros_74 rfl (lv_at hl 0 rfl) ?_
            refine xi_iconst hx hb dJ13_numberOfLeadingZeros_75 ?_
            refine xi_iushrL 2 hx hb (by decide) (by decide) dJ13_numberOfLeadingZeros_76 ?_
            refine xi_isub hx hb dJ13_numberOfLeadingZeros_77 ?_
            exact x_ret0i hx hb hr hlk hH (by (repeat (first | with_reducible refine ifp (by omega) ?_ | with_reducible refine ifn (by omega) ?_)); first | rfl | omega | (have gb_ := lgZ_b2 (t := w_12) (by omega); omega)) dJ13_numberOfLeadingZeros_78
          · skip
            refine xi_iinc (lv' := [(1, .int (iI (((31 + (-16)) + (-8)) + (-2)))), (0, .int (iI (w_12)))]) hx hb dJ13_numberOfLeadingZeros_66 hl (k := 1) rfl (by decide) rfl (fun ls hl => ?_)
            refine lv_iload_n hx hb dJ13_numberOfLeadingZeros_69 rfl (lv_at hl 1 rfl) ?_
            refine xi_iconst hx hb dJ13_numberOfLeadingZeros_70 ?_
            refine xi_iushrL 4 hx hb (by decide) (by decide) dJ13_numberOfLeadingZeros_71 ?_
            refine xi_name (fun w_13 e_w_13 => ?_)
            have e2_w_13 : w_13 = (w_12) / 4 := by omega
            have g_w_13 : lgZ (w_12) = 2 + lgZ w_13 := by rw [e2_w_13]; exact lgZ_sh 2 (by decide) (by omega)
            refine lv_istore_n (lv' := [(0, .int (iI (w_13))), (1, .int (iI (((31 + (-16)) + (-8)) + (-2))))]) hx hb dJ13_numberOfLeadingZeros_72 rfl hl (by decide) rfl (fun ls hl => ?_)
            refine lv_iload_n hx hb dJ13_numberOfLeadingZeros_73 rfl (lv_at hl 1 rfl) ?_
            refine lv_iload_n hx hb dJ13_numberOfLeadingZeros_74 rfl (lv_at hl 0 rfl) ?_
            refine xi_iconst hx hb dJ13_numberOfLeadingZeros_75 ?_
            refine xi_iushrL 2 hx hb (by decide) (by decide) dJ13_numberOfLeadingZeros_76 ?_
            refine xi_isub hx hb dJ13_numberOfLeadingZeros_77 ?_
            exact x_ret0i hx hb hr hlk hH (by (repeat (first | with_reducible refine ifp (by omega) ?_ | with_reducible refine ifn (by omega) ?_)); first | rfl | omega | (have gb_ := lgZ_b2 (t := w_13) (by omega); omega)) dJ13_numberOfLeadingZeros_78
        · skip
          refine xi_iinc (lv' := [(1, .int (iI (((31 + (-16)) + (-8)) + (-4)))), (0, .int (iI (w_12)))]) hx hb dJ13_numberOfLeadingZeros_54 hl (k := 1) rfl (by decide) rfl (fun ls hl => ?_)
          refine lv_iload_n hx hb dJ13_numberOfLeadingZeros_57 rfl (lv_at hl 1 rfl) ?_
          refine xi_iconst hx hb dJ13_numberOfLeadingZeros_58 ?_
          refine xi_iushrL 16 hx hb (by decide) (by decide) dJ13_numberOfLeadingZeros_59 ?_
          refine xi_name (fun w_14 e_w_14 => ?_)
          have e2_w_14 : w_14 = (w_12) / 16 := by omega
          have g_w_14 : lgZ (w_12) = 4 + lgZ w_14 := by rw [e2_w_14]; exact lgZ_sh 4 (by decide) (by omega)
          refine lv_istore_n (lv' := [(0, .int (iI (w_14))), (1, .int (iI (((31 + (-16)) + (-8)) + (-4))))]) hx hb dJ13_numberOfLeadingZeros_60 rfl hl (by decide) rfl (fun ls hl => ?_)
          refine lv_iload_n hx hb dJ13_numberOfLeadingZeros_61 rfl (lv_at hl 0 rfl) ?_
          refine xi_iconst hx hb dJ13_numberOfLeadingZeros_62 ?_
          refine xi_icmp_lt (tgt := 73) hx hb dJ13_numberOfLeadingZeros_63 (by decide) (by omega) (by omega) (fun c_63 => ?_) (fun c_63 => ?_)
          · skip
            refine lv_iload_n hx hb dJ13_numberOfLeadingZeros_73 rfl (lv_at hl 1 rfl) ?_
            refine lv_iload_n hx hb dJ13_numberOfLeadingZeros_74 rfl (lv_at hl 0 rfl) ?_
            refine xi_iconst hx hb dJ13_numberOfLeadingZeros_75 ?_
            refine xi_iushrL 2 hx hb (by decide) (by decide) dJ13_numberOfLeadingZeros_76 ?_
            refine xi_isub hx hb dJ13_numberOfLeadingZeros_77 ?_
            exact x_ret0i hx hb hr hlk hH (by (repeat (first | with_reducible refine ifp (by omega) ?_ | with_reducible refine ifn (by omega) ?_)); first | rfl | omega | (have gb_ := lgZ_b2 (t := w_14) (by omega); omega)) dJ13_numberOfLeadingZeros_78
          · skip
            refine xi_iinc (lv' := [(1, .int (iI ((((31 + (-16)) + (-8)) + (-4)) + (-2)))), (0, .int (iI (w_14)))]) hx hb dJ13_numberOfLeadingZeros_66 hl (k := 1) rfl (by decide) rfl (fun ls hl => ?_)
            refine lv_iload_n hx hb dJ13_numberOfLeadingZeros_69 rfl (lv_at hl 1 rfl) ?_
            refine xi_iconst hx hb dJ13_numberOfLeadingZeros_70 ?_
            refine xi_iushrL 4 hx hb (by decide) (by decide) dJ13_numberOfLeadingZeros_71 ?_
            refine xi_name (fun w_15 e_w_15 => ?_)
            have e2_w_15 : w_15 = (w_14) / 4 := by omega
            have g_w_15 : lgZ (w_14) = 2 + lgZ w_15 := by rw [e2_w_15]; exact lgZ_sh 2 (by decide) (by omega)
            refine lv_istore_n (lv' := [(0, .int (iI (w_15))), (1, .int (iI ((((31 + (-16)) + (-8)) + (-4)) + (-2))))]) hx hb dJ13_numberOfLeadingZeros_72 rfl hl (by decide) rfl (fun ls hl => ?_)
            refine lv_iload_n hx hb dJ13_numberOfLeadingZeros_73 rfl (lv_at hl 1 rfl) ?_
            refine lv_iload_n hx hb dJ13_numberOfLeadingZeros_74 rfl (lv_at hl 0 rfl) ?_
            refine xi_iconst hx hb dJ13_numberOfLeadingZeros_75 ?_
            refine xi_iushrL 2 hx hb (by decide) (by decide) dJ13_numberOfLeadingZeros_76 ?_
            refine xi_isub hx hb dJ13_numberOfLeadingZeros_77 ?_
            exact x_ret0i hx hb hr hlk hH (by (repeat (first | with_reducible refine ifp (by omega) ?_ | with_reducible refine ifn (by omega) ?_)); first | rfl | omega | (have gb_ := lgZ_b2 (t := w_15) (by omega); omega)) dJ13_numberOfLeadingZeros_78
  · skip
    refine lv_iload_n hx hb dJ13_numberOfLeadingZeros_4 rfl (lv_at hl 0 rfl) ?_
    refine xi_if_ne (tgt := 13) hx hb dJ13_numberOfLeadingZeros_5 (by decide) (by omega) (fun c_5 => ?_) (fun c_5 => ?_)
    · skip
      refine xi_iconst hx hb dJ13_numberOfLeadingZeros_13 ?_
      exact x_ret0i hx hb hr hlk hH (by (repeat (first | with_reducible refine ifp (by omega) ?_ | with_reducible refine ifn (by omega) ?_)); first | rfl | omega | (have gb_ := lgZ_b2 (t := i) (by omega); omega)) dJ13_numberOfLeadingZeros_14
    · skip
      refine xi_bipush hx hb (by decide) dJ13_numberOfLeadingZeros_8 ?_
      refine lv_goto (tgt := 14) hx hb dJ13_numberOfLeadingZeros_10 (by decide) ?_
      exact x_ret0i hx hb hr hlk hH (by (repeat (first | with_reducible refine ifp (by omega) ?_ | with_reducible refine ifn (by omega) ?_)); first | rfl | omega | (have gb_ := lgZ_b2 (t := i) (by omega); omega)) dJ13_numberOfLeadingZeros_14

theorem hpJ13_bitCount : plainFor yJ13_bitCount = true := by decide +kernel
theorem hdJ13_bitCount : nMH yJ13_bitCount 1 := by decide +kernel
set_option maxHeartbeats 4000000 in
theorem c_J13_bitCount (l : Launch) (G : GG) (H0 : Heap) (i : Int) (r_i : -2147483648 ≤ i ∧ i < 2147483648) : Ct0 l G yJ13_bitCount cJ13_bitCount 1 (Option.some Jvm.ClassFile.FieldType.int) 0 0 [.int (iI (i))] H0 (.int (iI (((popN (i % 4294967296).toNat : Nat) : Int)))) := by
  refine Ct0.start hpJ13_bitCount (Nat.le_of_ble_eq_true rfl) ?_
  intro p e s m below meth c ls hx hb hr S hlk hH hK hl
  have hl : lv_has ls 1 [(0, .int (iI (i)))] := hl
  refine lv_iload_n hx hb dJ13_bitCount_0 rfl (lv_at hl 0 rfl) ?_
  refine lv_iload_n hx hb dJ13_bitCount_1 rfl (lv_at hl 0 rfl) ?_
  refine xi_iconst hx hb dJ13_bitCount_2 ?_
  refine xi_iushrL 2 hx hb (by decide) (by decide) dJ13_bitCount_3 ?_
  refine xi_ldc_w (z := 1431655765) hx hb S.2.2.2.1 S.2.2.2.2 q1446 (by decide +kernel) dJ13_bitCount_4 ?_
  refine xi_iand hx hb dJ13_bitCount_7 ?_
  refine xi_isub hx hb dJ13_bitCount_8 ?_
  refine xi_name (fun n1 e_n1 => ?_)
  have f1 : (n1 % 4294967296).toNat = pop1 (i % 4294967296).toNat := by rw [e_n1]; exact popI_1
  refine lv_istore_n (lv' := [(0, .int (iI (n1)))]) hx hb dJ13_bitCount_9 rfl hl (by decide) rfl (fun ls hl => ?_)
  refine lv_iload_n hx hb dJ13_bitCount_10 rfl (lv_at hl 0 rfl) ?_
  refine xi_ldc_w (z := 858993459) hx hb S.2.2.2.1 S.2.2.2.2 q1447 (by decide +kernel) dJ13_bitCount_11 ?_
  refine xi_iand hx hb dJ13_bitCount_14 ?_
  refine lv_iload_n hx hb dJ13_bitCount_15 rfl (lv_at hl 0 rfl) ?_
  refine xi_iconst hx hb dJ13_bitCount_16 ?_
  refine xi_iushrL 4 hx hb (by decide) (by decide) dJ13_bitCount_17 ?_
  refine xi_ldc_w (z := 858993459) hx hb S.2.2.2.1 S.2.2.2.2 q1447 (by decide +kernel) dJ13_bitCount_18 ?_
  refine xi_iand hx hb dJ13_bitCount_21 ?_
  refine xi_iadd hx hb dJ13_bitCount_22 ?_
  refine xi_name (fun n2 e_n2 => ?_)
  have f2 : n2 = ((pop2 (pop1 (i % 4294967296).toNat) : Nat) : Int) := by rw [e_n2, popI_2, f1]
  have b2 := pop2_le (pop1 (i % 4294967296).toNat)
  refine lv_istore_n (lv' := [(0, .int (iI (n2)))]) hx hb dJ13_bitCount_23 rfl hl (by decide) rfl (fun ls hl => ?_)
  refine lv_iload_n hx hb dJ13_bitCount_24 rfl (lv_at hl 0 rfl) ?_
  refine lv_iload_n hx hb dJ13_bitCount_25 rfl (lv_at hl 0 rfl) ?_
  refine xi_iconst hx hb dJ13_bitCount_26 ?_
  refine xi_iushrL 16 hx hb (by decide) (by decide) dJ13_bitCount_27 ?_
  refine xi_iadd hx hb dJ13_bitCount_28 ?_
  refine xi_ldc_w (z := 252645135) hx hb S.2.2.2.1 S.2.2.2.2 q1448 (by decide +kernel) dJ13_bitCount_29 ?_
  refine xi_iand hx hb dJ13_bitCount_32 ?_
  refine xi_name (fun n3 e_n3 => ?_)
  have f3 : n3 = ((pop3 (pop2 (pop1 (i % 4294967296).toNat)) : Nat) : Int) := by rw [e_n3, f2, popI_3 b2]
  have b3 := pop3_le (pop2 (pop1 (i % 4294967296).toNat))
  refine lv_istore_n (lv' := [(0, .int (iI (n3)))]) hx hb dJ13_bitCount_33 rfl hl (by decide) rfl (fun ls hl => ?_)
  refine lv_iload_n hx hb dJ13_bitCount_34 rfl (lv_at hl 0 rfl) ?_
  refine lv_iload_n hx hb dJ13_bitCount_35 rfl (lv_at hl 0 rfl) ?_
  refine xi_bipush hx hb (by decide) dJ13_bitCount_36 ?_
  refine xi_iushrL 256 hx hb (by decide) (by decide) dJ13_bitCount_38 ?_
  refine xi_iadd hx hb dJ13_bitCount_39 ?_
  refine xi_name (fun n4 e_n4 => ?_)
  have f4 : n4 = n3 + n3 / 256 := by omega
  refine lv_istore_n (lv' := [(0, .int (iI (n4)))]) hx hb dJ13_bitCount_40 rfl hl (by decide) rfl (fun ls hl => ?_)
  refine lv_iload_n hx hb dJ13_bitCount_41 rfl (lv_at hl 0 rfl) ?_
  refine lv_iload_n hx hb dJ13_bitCount_42 rfl (lv_at hl 0 rfl) ?_
  refine xi_bipush hx hb (by decide) dJ13_bitCount_43 ?_
  refine xi_iushrL 65536 hx hb (by decide) (by decide) dJ13_bitCount_45 ?_
  refine xi_iadd hx hb dJ13_bitCount_46 ?_
  refine xi_name (fun n5 e_n5 => ?_)
  have f5 : n5 = n4 + n4 / 65536 := by omega
  refine lv_istore_n (lv' := [(0, .int (iI (n5)))]) hx hb dJ13_bitCount_47 rfl hl (by decide) rfl (fun ls hl => ?_)
  refine lv_iload_n hx hb dJ13_bitCount_48 rfl (lv_at hl 0 rfl) ?_
  refine xi_bipush hx hb (by decide) dJ13_bitCount_49 ?_
  refine xi_iandm hx hb 6 (by decide) (by decide) dJ13_bitCount_51 ?_
  exact x_ret0i hx hb hr hlk hH (by exact popI_f _ n3 n4 n5 f3 b3 f4 f5) dJ13_bitCount_52

theorem hpJ13_numberOfTrailingZeros : plainFor yJ13_numberOfTrailingZeros = true := by decide +kernel
theorem hdJ13_numberOfTrailingZeros : nMH yJ13_numberOfTrailingZeros 1 := by decide +kernel
set_option maxHeartbeats 4000000 in
theorem c_J13_numberOfTrailingZeros (l : Launch) (G : GG) (H0 : Heap) (k : Nat) (i : Int) (r_i : -2147483648 ≤ i ∧ i < 2147483648) (hk : k < 32 ∧ i % 4294967296 = 2 ^ k) : Ct0 l G yJ13_numberOfTrailingZeros cJ13_numberOfTrailingZeros 2 (Option.some Jvm.ClassFile.FieldType.int) 0 0 [.int (iI (i))] H0 (.int (iI ((k : Int)))) := by
  refine Ct0.start hpJ13_numberOfTrailingZeros (Nat.le_of_ble_eq_true rfl) ?_
  intro p e s m below meth c ls hx hb hr S hlk hH hK hl
  have hl : lv_has ls 2 [(0, .int (iI (i)))] := hl
  refine lv_iload_n hx hb dJ13_numberOfTrailingZeros_0 rfl (lv_at hl 0 rfl) ?_
  refine xi_iconst hx hb dJ13_numberOfTrailingZeros_1 ?_
  refine xi_ixor hx hb dJ13_numberOfTrailingZeros_2 ?_
  refine lv_iload_n hx hb dJ13_numberOfTrailingZeros_3 rfl (lv_at hl 0 rfl) ?_
  refine xi_iconst hx hb dJ13_numberOfTrailingZeros_4 ?_
  refine xi_isub hx hb dJ13_numberOfTrailingZeros_5 ?_
  refine xi_iand hx hb dJ13_numberOfTrailingZeros_6 ?_
  refine xi_name (fun w e_w => ?_)
  have hcur : w = 2 ^ k - 1 := by rw [e_w]; exact ntz_and hk
  have wb_ : w < 2147483648 := by (have e0_ : ((2 ^ k : Nat) : Int) = 2 ^ k := (by rw [Int.natCast_pow]; rfl); have p_ := Nat.pow_le_pow_right (n := 2) (by omega) (show k ≤ 31 by omega); omega)
  have wc_ : 0 ≤ w := by (have e0_ : ((2 ^ k : Nat) : Int) = 2 ^ k := (by rw [Int.natCast_pow]; rfl); have p_ := Nat.two_pow_pos k; omega)
  refine lv_istore_n (lv' := [(0, .int (iI (w)))]) hx hb dJ13_numberOfTrailingZeros_7 rfl hl (by decide) rfl (fun ls hl => ?_)
  refine lv_iload_n hx hb dJ13_numberOfTrailingZeros_8 rfl (lv_at hl 0 rfl) ?_
  refine xi_if_gt (tgt := 17) hx hb dJ13_numberOfTrailingZeros_9 (by decide) (by omega) (fun c_9 => ?_) (fun c_9 => ?_)
  · skip
    refine xi_iconst hx hb dJ13_numberOfTrailingZeros_17 ?_
    refine lv_istore_n (lv' := [(1, .int (iI (1))), (0, .int (iI (w)))]) hx hb dJ13_numberOfTrailingZeros_18 rfl hl (by decide) rfl (fun ls hl => ?_)
    refine lv_iload_n hx hb dJ13_numberOfTrailingZeros_19 rfl (lv_at hl 1 rfl) ?_
    refine xi_ldc_w (z := 65536) hx hb S.2.2.2.1 S.2.2.2.2 q1442 (by decide +kernel) dJ13_numberOfTrailingZeros_20 ?_
    refine xi_icmp_le (tgt := 34) hx hb dJ13_numberOfTrailingZeros_23 (by decide) (by omega) (by omega) (fun c_23 => ?_) (fun c_23 => ?_)
    · skip
      refine lv_iload_n hx hb dJ13_numberOfTrailingZeros_34 rfl (lv_at hl 1 rfl) ?_
      refine xi_sipush hx hb (by decide) dJ13_numberOfTrailingZeros_35 ?_
      refine xi_icmp_le (tgt := 49) hx hb dJ13_numberOfTrailingZeros_38 (by decide) (by omega) (by omega) (fun c_38 => ?_) (fun c_38 => ?_)
      · skip
        refine lv_iload_n hx hb dJ13_numberOfTrailingZeros_49 rfl (lv_at hl 1 rfl) ?_
        refine xi_bipush hx hb (by decide) dJ13_numberOfTrailingZeros_50 ?_
        refine xi_icmp_le (tgt := 62) hx hb dJ13_numberOfTrailingZeros_52 (by decide) (by omega) (by omega) (fun c_52 => ?_) (fun c_52 => ?_)
        · skip
          refine lv_iload_n hx hb dJ13_numberOfTrailingZeros_62 rfl (lv_at hl 1 rfl) ?_
          refine xi_iconst hx hb dJ13_numberOfTrailingZeros_63 ?_
          refine xi_icmp_le (tgt := 74) hx hb dJ13_numberOfTrailingZeros_64 (by decide) (by omega) (by omega) (fun c_64 => ?_) (fun c_64 => ?_)
          · skip
            refine lv_iload_n hx hb dJ13_numberOfTrailingZeros_74 rfl (lv_at hl 0 rfl) ?_
            refine lv_iload_n hx hb dJ13_numberOfTrailingZeros_75 rfl (lv_at hl 1 rfl) ?_
            refine xi_iconst hx hb dJ13_numberOfTrailingZeros_76 ?_
            refine xi_iushrL 2 hx hb (by decide) (by decide) dJ13_numberOfTrailingZeros_77 ?_
            refine xi_iadd hx hb dJ13_numberOfTrailingZeros_78 ?_
            exact x_ret0i hx hb hr hlk hH (by have gb_ := ntz_b hcur (by omega) (by omega); omega) dJ13_numberOfTrailingZeros_79
          · skip
            refine xi_iinc (lv' := [(1, .int (iI (1 + 2))), (0, .int (iI (w)))]) hx hb dJ13_numberOfTrailingZeros_67 hl (k := 0) rfl (by decide) rfl (fun ls hl => ?_)
            refine lv_iload_n hx hb dJ13_numberOfTrailingZeros_70 rfl (lv_at hl 1 rfl) ?_
            refine xi_iconst hx hb dJ13_numberOfTrailingZeros_71 ?_
            refine xi_iushrL 4 hx hb (by decide) (by decide) dJ13_numberOfTrailingZeros_72 ?_
            refine xi_name (fun w_1 e_w_1 => ?_)
            have e2_w_1 : w_1 = (w) / 4 := by omega
            obtain ⟨hle_w_1, hn_w_1⟩ := ntz_sh (n := 2) hcur (by decide) (show (4 : Int) < w by omega)
            rw [← e2_w_1] at hn_w_1
            have hcur := hn_w_1
            refine lv_istore_n (lv' := [(0, .int (iI (w_1))), (1, .int (iI (1 + 2)))]) hx hb dJ13_numberOfTrailingZeros_73 rfl hl (by decide) rfl (fun ls hl => ?_)
            refine lv_iload_n hx hb dJ13_numberOfTrailingZeros_74 rfl (lv_at hl 1 rfl) ?_
            refine lv_iload_n hx hb dJ13_numberOfTrailingZeros_75 rfl (lv_at hl 0 rfl) ?_
            refine xi_iconst hx hb dJ13_numberOfTrailingZeros_76 ?_
            refine xi_iushrL 2 hx hb (by decide) (by decide) dJ13_numberOfTrailingZeros_77 ?_
            refine xi_iadd hx hb dJ13_numberOfTrailingZeros_78 ?_
            exact x_ret0i hx hb hr hlk hH (by have gb_ := ntz_b hcur (by omega) (by omega); omega) dJ13_numberOfTrailingZeros_79
        · skip
          refine xi_iinc (lv' := [(1, .int (iI (1 + 4))), (0, .int (iI (w)))]) hx hb dJ13_numberOfTrailingZeros_55 hl (k := 0) rfl (by decide) rfl (fun ls hl => ?_)
          refine lv_iload_n hx hb dJ13_numberOfTrailingZeros_58 rfl (lv_at hl 1 rfl) ?_
          refine xi_iconst hx hb dJ13_numberOfTrailingZeros_59 ?_
          refine xi_iushrL 16 hx hb (by decide) (by decide) dJ13_numberOfTrailingZeros_60 ?_
          refine xi_name (fun w_2 e_w_2 => ?_)
          have e2_w_2 : w_2 = (w) / 16 := by omega
          obtain ⟨hle_w_2, hn_w_2⟩ := ntz_sh (n := 4) hcur (by decide) (show (16 : Int) < w by omega)
          rw [← e2_w_2] at hn_w_2
          have hcur := hn_w_2
          refine lv_istore_n (lv' := [(0, .int (iI (w_2))), (1, .int (iI (1 + 4)))]) hx hb dJ13_numberOfTrailingZeros_61 rfl hl (by decide) rfl (fun ls hl => ?_)
          refine lv_iload_n hx hb dJ13_numberOfTrailingZeros_62 rfl (lv_at hl 0 rfl) ?_
          refine xi_iconst hx hb dJ13_numberOfTrailingZeros_63 ?_
          refine xi_icmp_le (tgt := 74) hx hb dJ13_numberOfTrailingZeros_64 (by decide) (by omega) (by omega) (fun c_64 => ?_) (fun c_64 => ?_)
          · skip
            refine lv_iload_n hx hb dJ13_numberOfTrailingZeros_74 rfl (lv_at hl 1 rfl) ?_
            refine lv_iload_n hx hb dJ13_numberOfTrailingZeros_75 rfl (lv_at hl 0 rfl) ?_
            refine xi_iconst hx hb dJ13_numberOfTrailingZeros_76 ?_
            refine xi_iushrL 2 hx hb (by decide) (by decide) dJ13_numberOfTrailingZeros_77 ?_
            refine xi_iadd hx hb dJ13_numberOfTrailingZeros_78 ?_
            exact x_ret0i hx hb hr hlk hH (by have gb_ := ntz_b hcur (by omega) (by omega); omega) dJ13_numberOfTrailingZeros_79
          · skip
            refine xi_iinc (lv' := [(1, .int (iI ((1 + 4) + 2))), (0, .int (iI (w_2)))]) hx hb dJ13_numberOfTrailingZeros_67 hl (k := 1) rfl (by decide) rfl (fun ls hl => ?_)
            refine lv_iload_n hx hb dJ13_numberOfTrailingZeros_70 rfl (lv_at hl 1 rfl) ?_
            refine xi_iconst hx hb dJ13_numberOfTrailingZeros_71 ?_
            refine xi_iushrL 4 hx hb (by decide) (by decide) dJ13_numberOfTrailingZeros_72 ?_
            refine xi_name (fun w_3 e_w_3 => ?_)
            have e2_w_3 : w_3 = (w_2) / 4 := by omega
            obtain ⟨hle_w_3, hn_w_3⟩ := ntz_sh (n := 2) hcur (by decide) (show (4 : Int) < w_2 by omega)
            rw [← e2_w_3] at hn_w_3
            have hcur := hn_w_3
            refine lv_istore_n (lv' := [(0, .int (iI (w_3))), (1, .int (iI ((1 + 4) + 2)))]) hx hb dJ13_numberOfTrailingZeros_73 rfl hl (by decide) rfl (fun ls hl => ?_)
            refine lv_iload_n hx hb dJ13_numberOfTrailingZeros_74 rfl (lv_at hl 1 rfl) ?_
            refine lv_iload_n hx hb dJ13_numberOfTrailingZeros_75 rfl (lv_at hl 0 rfl) ?_
            refine xi_iconst hx hb dJ13_numberOfTrailingZeros_76 ?_
            refine xi_iushrL 2 hx hb (by decide) (by decide) dJ13_numberOfTrailingZeros_77 ?_
            refine xi_iadd hx hb dJ13_numberOfTrailingZeros_78 ?_
            exact x_ret0i hx hb hr hlk hH (by have gb_ := ntz_b hcur (by omega) (by omega); omega) dJ13_numberOfTrailingZeros_79
      · skip
        refine xi_iinc (lv' := [(1, .int (iI (1 + 8))), (0, .int (iI (w)))]) hx hb dJ13_numberOfTrailingZeros_41 hl (k := 0) rfl (by decide) rfl (fun ls hl => ?_)
        refine lv_iload_n hx hb dJ13_numberOfTrailingZeros_44 rfl (lv_at hl 1 rfl) ?_
        refine xi_bipush hx hb (by decide) dJ13_numberOfTrailingZeros_45 ?_
        refine xi_iushrL 256 hx hb (by decide) (by decide) dJ13_numberOfTrailingZeros_47 ?_
        refine xi_name (fun w_4 e_w_4 => ?_)
        have e2_w_4 : w_4 = (w) / 256 := by omega
        obtain ⟨hle_w_4, hn_w_4⟩ := ntz_sh (n := 8) hcur (by decide) (show (256 : Int) < w by omega)
        rw [← e2_w_4] at hn_w_4
        have hcur := hn_w_4
        refine lv_istore_n (lv' := [(0, .int (iI (w_4))), (1, .int (iI (1 + 8)))]) hx hb dJ13_numberOfTrailingZeros_48 rfl hl (by decide) rfl (fun ls hl => ?_)
        refine lv_iload_n hx hb dJ13_numberOfTrailingZeros_49 rfl (lv_at hl 0 rfl) ?_
        refine xi_bipush hx hb (by decide) dJ13_numberOfTrailingZeros_50 ?_
        refine xi_icmp_le (tgt := 62) hx hb dJ13_numberOfTrailingZeros_52 (by decide) (by omega) (by omega) (fun c_52 => ?_) (fun c_52 => ?_)
        · skip
          refine lv_iload_n hx hb dJ13_numberOfTrailingZeros_62 rfl (lv_at hl 0 rfl) ?_
          refine xi_iconst hx hb dJ13_numberOfTrailingZeros_63 ?_
          refine xi_icmp_le (tgt := 74) hx hb dJ13_numberOfTrailingZeros_64 (by decide) (by omega) (by omega) (fun c_64 => ?_) (fun c_64 => ?_)
          · skip
            refine lv_iload_n hx hb dJ13_numberOfTrailingZeros_74 rfl (lv_at hl 1 rfl) ?_
            refine lv_iload_n hx hb dJ13_numberOfTrailingZeros_75 rfl (lv_at hl 0 rfl) ?_
            refine xi_iconst hx hb dJ13_numberOfTrailingZeros_76 ?_
            refine xi_iushrL 2 hx hb (by decide) (by decide) dJ13_numberOfTrailingZeros_77 ?_
            refine xi_iadd hx hb dJ13_numberOfTrailingZeros_78 ?_
            exact x_ret0i hx hb hr hlk hH (by have gb_ := ntz_b hcur (by omega) (by omega); omega) dJ13_numberOfTrailingZeros_79
          · skip
            refine xi_iinc (lv' := [(1, .int (iI ((1 + 8) + 2))), (0, .int (iI (w_4)))]) hx hb dJ13_numberOfTrailingZeros_67 hl (k := 1) rfl (by decide) rfl (fun ls hl => ?_)
            refine lv_iload_n hx hb dJ13_numberOfTrailingZeros_70 rfl (lv_at hl 1 rfl) ?_
            refine xi_iconst hx hb dJ13_numberOfTrailingZeros_71 ?_
            refine xi_iushrL 4 hx hb (by decide) (by decide) dJ13_numberOfTrailingZeros_72 ?_
            refine xi_name (fun w_5 e_w_5 => ?_)
            have e2_w_5 : w_5 = (w_4) / 4 := by omega
            obtain ⟨hle_w_5, hn_w_5⟩ := ntz_sh (n := 2) hcur (by decide) (show (4 : Int) < w_4 by omega)
            rw [← e2_w_5] at hn_w_5
            have hcur := hn_w_5
            refine lv_istore_n (lv' := [(0, .int (iI (w_5))), (1, .int (iI ((1 + 8) + 2)))]) hx hb dJ13_numberOfTrailingZeros_73 rfl hl (by decide) rfl (fun ls hl => ?_)
            refine lv_iload_n hx hb dJ13_numberOfTrailingZeros_74 rfl (lv_at hl 1 rfl) ?_
            refine lv_iload_n hx hb dJ13_numberOfTrailingZeros_75 rfl (lv_at hl 0 rfl) ?_
            refine xi_iconst hx hb dJ13_numberOfTrailingZeros_76 ?_
            refine xi_iushrL 2 hx hb (by decide) (by decide) dJ13_numberOfTrailingZeros_77 ?_
            refine xi_iadd hx hb dJ13_numberOfTrailingZeros_78 ?_
            exact x_ret0i hx hb hr hlk hH (by have gb_ := ntz_b hcur (by omega) (by omega); omega) dJ13_numberOfTrailingZeros_79
        · skip
          refine xi_iinc (lv' := [(1, .int (iI ((1 + 8) + 4))), (0, .int (iI (w_4)))]) hx hb dJ13_numberOfTrailingZeros_55 hl (k := 1) rfl (by decide) rfl (fun ls hl => ?_)
          refine lv_iload_n hx hb dJ13_numberOfTrailingZeros_58 rfl (lv_at hl 1 rfl) ?_
          refine xi_iconst hx hb dJ13_numberOfTrailingZeros_59 ?_
          refine xi_iushrL 16 hx hb (by decide) (by decide) dJ13_numberOfTrailingZeros_60 ?_
          refine xi_name (fun w_6 e_w_6 => ?_)
          have e2_w_6 : w_6 = (w_4) / 16 := by omega
          obtain ⟨hle_w_6, hn_w_6⟩ := ntz_sh (n := 4) hcur (by decide) (show (16 : Int) < w_4 by omega)
          rw [← e2_w_6] at hn_w_6
          have hcur := hn_w_6
          refine lv_istore_n (lv' := [(0, .int (iI (w_6))), (1, .int (iI ((1 + 8) + 4)))]) hx hb dJ13_numberOfTrailingZeros_61 rfl hl (by decide) rfl (fun ls hl => ?_)
          refine lv_iload_n hx hb dJ13_numberOfTrailingZeros_62 rfl (lv_at hl 0 rfl) ?_
          refine xi_iconst hx hb dJ13_numberOfTrailingZeros_63 ?_
          refine xi_icmp_le (tgt := 74) hx hb dJ13_numberOfTrailingZeros_64 (by decide) (by omega) (by omega) (fun c_64 => ?_) (fun c_64 => ?_)
          · skip
            refine lv_iload_n hx hb dJ13_numberOfTrailingZeros_74 rfl (lv_at hl 1 rfl) ?_
            refine lv_iload_n hx hb dJ13_numberOfTrailingZeros_75 rfl (lv_at hl 0 rfl) ?_
            refine xi_iconst hx hb dJ13_numberOfTrailingZeros_76 ?_
            refine xi_iushrL 2 hx hb (by decide) (by decide) dJ13_numberOfTrailingZeros_77 ?_
            refine xi_iadd hx hb dJ13_numberOfTrailingZeros_78 ?_
            exact x_ret0i hx hb hr hlk hH (by have gb_ := ntz_b hcur (by omega) (by omega); omega) dJ13_numberOfTrailingZeros_79
          · skip
            refine xi_iinc (lv' := [(1, .int (iI (((1 + 8) + 4) + 2))), (0, .int (iI (w_6)))]) hx hb dJ13_numberOfTrailingZeros_67 hl (k := 1) rfl (by decide) rfl (fun ls hl => ?_)
            refine lv_iload_n hx hb dJ13_numberOfTrailingZeros_70 rfl (lv_at hl 1 rfl) ?_
            refine xi_iconst hx hb dJ13_numberOfTrailingZeros_71 ?_
            refine xi_iushrL 4 hx hb (by decide) (by decide) dJ13_numberOfTrailingZeros_72 ?_
            refine xi_name (fun w_7 e_w_7 => ?_)
            have e2_w_7 : w_7 = (w_6) / 4 := by omega
            obtain ⟨hle_w_7, hn_w_7⟩ := ntz_sh (n := 2) hcur (by decide) (show (4 : Int) < w_6 by omega)
            rw [← e2_w_7] at hn_w_7
            have hcur := hn_w_7
            refine lv_istore_n (lv' := [(0, .int (iI (w_7))), (1, .int (iI (((1 + 8) + 4) + 2)))]) hx hb dJ13_numberOfTrailingZeros_73 rfl hl (by decide) rfl (fun ls hl => ?_)
            refine lv_iload_n hx hb dJ13_numberOfTrailingZeros_74 rfl (lv_at hl 1 rfl) ?_
            refine lv_iload_n hx hb dJ13_numberOfTrailingZeros_75 rfl (lv_at hl 0 rfl) ?_
            refine xi_iconst hx hb dJ13_numberOfTrailingZeros_76 ?_
            refine xi_iushrL 2 hx hb (by decide) (by decide) dJ13_numberOfTrailingZeros_77 ?_
            refine xi_iadd hx hb dJ13_numberOfTrailingZeros_78 ?_
            exact x_ret0i hx hb hr hlk hH (by have gb_ := ntz_b hcur (by omega) (by omega); omega) dJ13_numberOfTrailingZeros_79
    · skip
      refine xi_iinc (lv' := [(1, .int (iI (1 + 16))), (0, .int (iI (w)))]) hx hb dJ13_numberOfTrailingZeros_26 hl (k := 0) rfl (by decide) rfl (fun ls hl => ?_)
      refine lv_iload_n hx hb dJ13_numberOfTrailingZeros_29 rfl (lv_at hl 1 rfl) ?_
      refine xi_bipush hx hb (by decide) dJ13_numberOfTrailingZeros_30 ?_
      refine xi_iushrL 65536 hx hb (by decide) (by decide) dJ13_numberOfTrailingZeros_32 ?_
      refine xi_name (fun w_8 e_w_8 => ?_)
      have e2_w_8 : w_8 = (w) / 65536 := by omega
      obtain ⟨hle_w_8, hn_w_8⟩ := ntz_sh (n := 16) hcur (by decide) (show (65536 : Int) < w by omega)
      rw [← e2_w_8] at hn_w_8
      have hcur := hn_w_8
      refine lv_istore_n (lv' := [(0, .int (iI (w_8))), (1, .int (iI (1 + 16)))]) hx hb dJ13_numberOfTrailingZeros_33 rfl hl (by decide) rfl (fun ls hl => ?_)
      refine lv_iload_n hx hb dJ13_numberOfTrailingZeros_34 rfl (lv_at hl 0 rfl) ?_
      refine xi_sipush hx hb (by decide) dJ13_numberOfTrailingZeros_35 ?_
      refine xi_icmp_le (tgt := 49) hx hb dJ13_numberOfTrailingZeros_38 (by decide) (by omega) (by omega) (fun c_38 => ?_) (fun c_38 => ?_)
      · skip
        refine lv_iload_n hx hb dJ13_numberOfTrailingZeros_49 rfl (lv_at hl 0 rfl) ?_
        refine xi_bipush hx hb (by decide) dJ13_numberOfTrailingZeros_50 ?_
        refine xi_icmp_le (tgt := 62) hx hb dJ13_numberOfTrailingZeros_52 (by decide) (by omega) (by omega) (fun c_52 => ?_) (fun c_52 => ?_)
        · skip
          refine lv_iload_n hx hb dJ13_numberOfTrailingZeros_62 rfl (lv_at hl 0 rfl) ?_
          refine xi_iconst hx hb dJ13_numberOfTrailingZeros_63 ?_
          refine xi_icmp_le (tgt := 74) hx hb dJ13_numberOfTrailingZeros_64 (by decide) (by omega) (by omega) (fun c_64 => ?_) (fun c_64 => ?_)
          · skip
            refine lv_iload_n hx hb dJ13_numberOfTrailingZeros_74 rfl (lv_at hl 1 rfl) ?_
            refine lv_iload_n hx hb dJ13_numberOfTrailingZeros_75 rfl (lv_at hl 0 rfl) ?_
            refine xi_iconst hx hb dJ13_numberOfTrailingZeros_76 ?_
            refine xi_iushrL 2 hx hb (by decide) (by decide) dJ13_numberOfTrailingZeros_77 ?_
            refine xi_iadd hx hb dJ13_numberOfTrailingZeros_78 ?_
            exact x_ret0i hx hb hr hlk hH (by have gb_ := ntz_b hcur (by omega) (by omega); omega) dJ13_numberOfTrailingZeros_79
          · skip
            refine xi_iinc (lv' := [(1, .int (iI ((1 + 16) + 2))), (0, .int (iI (w_8)))]) hx hb dJ13_numberOfTrailingZeros_67 hl (k := 1) rfl (by decide) rfl (fun ls hl => ?_)
            refine lv_iload_n hx hb dJ13_numberOfTrailingZeros_70 rfl (lv_at hl 1 rfl) ?_
            refine xi_iconst hx hb dJ13_numberOfTrailingZeros_71 ?_
            refine xi_iushrL 4 hx hb (by decide) (by decide) dJ13_numberOfTrailingZeros_72 ?_
            refine xi_name (fun w_9 e_w_9 => ?_)
            have e2_w_9 : w_9 = (w_8) / 4 := by omega
            obtain ⟨hle_w_9, hn_w_9⟩ := ntz_sh (n := 2) hcur (by decide) (show (4 : Int) < w_8 by omega)
            rw [← e2_w_9] at hn_w_9
            have hcur := hn_w_9
            refine lv_istore_n (lv' := [(0, .int (iI (w_9))), (1, .int (iI ((1 + 16) + 2)))]) hx hb dJ13_numberOfTrailingZeros_73 rfl hl (by decide) rfl (fun ls hl => ?_)
            refine lv_iload_n hx hb dJ13_numberOfTrailingZeros_74 rfl (lv_at hl 1 rfl) ?_
            refine lv_iload_n hx hb dJ13_numberOfTrailingZeros_75 rfl (lv_at hl 0 rfl) ?_
            refine xi_iconst hx hb dJ13_numberOfTrailingZeros_76 ?_
            refine xi_iushrL 2 hx hb (by decide) (by decide) dJ13_numberOfTrailingZeros_77 ?_
            refine xi_iadd hx hb dJ13_numberOfTrailingZeros_78 ?_
            exact x_ret0i hx hb hr hlk hH (by have gb_ := ntz_b hcur (by omega) (by omega); omega) dJ13_numberOfTrailingZeros_79
        · skip
          refine xi_iinc (lv' := [(1, .int (iI ((1 + 16) + 4))), (0, .int (iI (w_8)))]) hx hb dJ13_numberOfTrailingZeros_55 hl (k := 1) rfl (by decide) rfl (fun ls hl => ?_)
          refine lv_iload_n hx hb dJ13_numberOfTrailingZeros_58 rfl (lv_at hl 1 rfl) ?_
          refine xi_iconst hx hb dJ13_numberOfTrailingZeros_59 ?_
          refine xi_iushrL 16 hx hb (by decide) (by decide) dJ13_numberOfTrailingZeros_60 ?_
          refine xi_name (fun w_10 e_w_10 => ?_)
          have e2_w_10 : w_10 = (w_8) / 16 := by omega
          obtain ⟨hle_w_10, hn_w_10⟩ := ntz_sh (n := 4) hcur (by decide) (show (16 : Int) < w_8 by omega)
          rw [← e2_w_10] at hn_w_10
          have hcur := hn_w_10
          refine lv_istore_n (lv' := [(0, .int (iI (w_10))), (1, .int (iI ((1 + 16) + 4)))]) hx hb dJ13_numberOfTrailingZeros_61 rfl hl (by decide) rfl (fun ls hl => ?_)
          refine lv_iload_n hx hb dJ13_numberOfTrailingZeros_62 rfl (lv_at hl 0 rfl) ?_
          refine xi_iconst hx hb dJ13_numberOfTrailingZeros_63 ?_
          refine xi_icmp_le (tgt := 74) hx hb dJ13_numberOfTrailingZeros_64 (by decide) (by omega) (by omega) (fun c_64 => ?_) (fun c_64 => ?_)
          · skip
            refine lv_iload_n hx hb dJ13_numberOfTrailingZeros_74 rfl (lv_at hl 1 rfl) ?_
            refine lv_iload_n hx hb dJ13_numberOfTrailingZeros_75 rfl (lv_at hl 0 rfl) ?_
            refine xi_iconst hx hb dJ13_numberOfTrailingZeros_76 ?_
            refine xi_iushrL 2 hx hb (by decide) (by decide) dJ13_numberOfTrailingZeros_77 ?_
            refine xi_iadd hx hb dJ13_numberOfTrailingZeros_78 ?_
            exact x_ret0i hx hb hr hlk hH (by have gb_ := ntz_b hcur (by omega) (by omega); omega) dJ13_numberOfTrailingZeros_79
          · skip
            refine xi_iinc (lv' := [(1, .int (iI (((1 + 16) + 4) + 2))), (0, .int (iI (w_10)))]) hx hb dJ13_numberOfTrailingZeros_67 hl (k := 1) rfl (by decide) rfl (fun ls hl => ?_)
            refine lv_iload_n hx hb dJ13_numberOfTrailingZeros_70 rfl (lv_at hl 1 rfl) ?_
            refine xi_iconst hx hb dJ13_numberOfTrailingZeros_71 ?_
            refine xi_iushrL 4 hx hb (by decide) (by decide) dJ13_numberOfTrailingZeros_72 ?_
            refine xi_name (fun w_11 e_w_11 => ?_)
            have e2_w_11 : w_11 = (w_10) / 4 := by omega
            obtain ⟨hle_w_11, hn_w_11⟩ := ntz_sh (n := 2) hcur (by decide) (show (4 : Int) < w_10 by omega)
            rw [← e2_w_11] at hn_w_11
            have hcur := hn_w_11
            refine lv_istore_n (lv' := [(0, .int (iI (w_11))), (1, .int (iI (((1 + 16) + 4) + 2)))]) hx hb dJ13_numberOfTrailingZeros_73 rfl hl (by decide) rfl (fun ls hl => ?_)
            refine lv_iload_n hx hb dJ13_numberOfTrailingZeros_74 rfl (lv_at hl 1 rfl) ?_
            refine lv_iload_n hx hb dJ13_numberOfTrailingZeros_75 rfl (lv_at hl 0 rfl) ?_
            refine xi_iconst hx hb dJ13_numberOfTrailingZeros_76 ?_
            refine xi_iushrL 2 hx hb (by decide) (by decide) dJ13_numberOfTrailingZeros_77 ?_
            refine xi_iadd hx hb dJ13_numberOfTrailingZeros_78 ?_
            exact x_ret0i hx hb hr hlk hH (by have gb_ := ntz_b hcur (by omega) (by omega); omega) dJ13_numberOfTrailingZeros_79
      · skip
        refine xi_iinc (lv' := [(1, .int (iI ((1 + 16) + 8))), (0, .int (iI (w_8)))]) hx hb dJ13_numberOfTrailingZeros_41 hl (k := 1) rfl (by decide) rfl (fun ls hl => ?_)
        refine lv_iload_n hx hb dJ13_numberOfTrailingZeros_44 rfl (lv_at hl 1 rfl) ?_
        refine xi_bipush hx hb (by decide) dJ13_numberOfTrailingZeros_45 ?_
        refine xi_iushrL 256 hx hb (by decide) (by decide) dJ13_numberOfTrailingZeros_47 ?_
        refine xi_name (fun w_12 e_w_12 => ?_)
        have e2_w_12 : w_12 = (w_8) / 256 := by omega
        obtain ⟨hle_w_12, hn_w_12⟩ := ntz_sh (n := 8) hcur (by decide) (show (256 : Int) < w_8 by omega)
        rw [← e2_w_12] at hn_w_12
        have hcur := hn_w_12
        refine lv_istore_n (lv' := [(0, .int (iI (w_12))), (1, .int (iI ((1 + 16) + 8)))]) hx hb dJ13_numberOfTrailingZeros_48 rfl hl (by decide) rfl (fun ls hl => ?_)
        refine lv_iload_n hx hb dJ13_numberOfTrailingZeros_49 rfl (lv_at hl 0 rfl) ?_
        refine xi_bipush hx hb (by decide) dJ13_numberOfTrailingZeros_50 ?_
        refine xi_icmp_le (tgt := 62) hx hb dJ13_numberOfTrailingZeros_52 (by decide) (by omega) (by omega) (fun c_52 => ?_) (fun c_52 => ?_)
        · skip
          refine lv_iload_n hx hb dJ13_numberOfTrailingZeros_62 rfl (lv_at hl 0 rfl) ?_
          refine xi_iconst hx hb dJ13_numberOfTrailingZeros_63 ?_
          refine xi_icmp_le (tgt := 74) hx hb dJ13_numberOfTrailingZeros_64 (by decide) (by omega) (by omega) (fun c_64 => ?_) (fun c_64 => ?_)
          · skip
            refine lv_iload_n hx hb dJ13_numberOfTrailingZeros_74 rfl (lv_at hl 1 rfl) ?_
            refine lv_iload_n hx hb dJ13_numberOfTrailingZeros_75 rfl (lv_at hl 0 rfl) ?_
            refine xi_iconst hx hb dJ13_numberOfTrailingZeros_76 ?_
            refine xi_iushrL 2 hx hb (by decide) (by decide) dJ13_numberOfTrailingZeros_77 ?_
            refine xi_iadd hx hb dJ13_numberOfTrailingZeros_78 ?_
            exact x_ret0i hx hb hr hlk hH (by have gb_ := ntz_b hcur (by omega) (by omega); omega) dJ13_numberOfTrailingZeros_79
          · skip
            refine xi_iinc (lv' := [(1, .int (iI (((1 + 16) + 8) + 2))), (0, .int (iI (w_12)))]) hx hb dJ13_numberOfTrailingZeros_67 hl (k := 1) rfl (by decide) rfl (fun ls hl => ?_)
            refine lv_iload_n hx hb dJ13_numberOfTrailingZeros_70 rfl (lv_at hl 1 rfl) ?_
            refine xi_iconst hx hb dJ13_numberOfTrailingZeros_71 ?_
            refine xi_iushrL 4 hx hb (by decide) (by decide) dJ13_numberOfTrailingZeros_72 ?_
            refine xi_name (fun w_13 e_w_13 => ?_)
            have e2_w_13 : w_13 = (w_12) / 4 := by omega
            obtain ⟨hle_w_13, hn_w_13⟩ := ntz_sh (n := 2) hcur (by decide) (show (4 : Int) < w_12 by omega)
            rw [← e2_w_13] at hn_w_13
            have hcur := hn_w_13
            refine lv_istore_n (lv' := [(0, .int (iI (w_13))), (1, .int (iI (((1 + 16) + 8) + 2)))]) hx hb dJ13_numberOfTrailingZeros_73 rfl hl (by decide) rfl (fun ls hl => ?_)
            refine lv_iload_n hx hb dJ13_numberOfTrailingZeros_74 rfl (lv_at hl 1 rfl) ?_
            refine lv_iload_n hx hb dJ13_numberOfTrailingZeros_75 rfl (lv_at hl 0 rfl) ?_
            refine xi_iconst hx hb dJ13_numberOfTrailingZeros_76 ?_
            refine xi_iushrL 2 hx hb (by decide) (by decide) dJ13_numberOfTrailingZeros_77 ?_
            refine xi_iadd hx hb dJ13_numberOfTrailingZeros_78 ?_
            exact x_ret0i hx hb hr hlk hH (by have gb_ := ntz_b hcur (by omega) (by omega); omega) dJ13_numberOfTrailingZeros_79
        · skip
          refine xi_iinc (lv' := [(1, .int (iI (((1 + 16) + 8) + 4))), (0, .int (iI (w_12)))]) hx hb dJ13_numberOfTrailingZeros_55 hl (k := 1) rfl (by decide) rfl (fun ls hl => ?_)
          refine lv_iload_n hx hb dJ13_numberOfTrailingZeros_58 rfl (lv_at hl 1 rfl) ?_
          refine xi_iconst hx hb dJ13_numberOfTrailingZeros_59 ?_
          refine xi_iushrL 16 hx hb (by decide) (by decide) dJ13_numberOfTrailingZeros_60 ?_
          refine xi_name (fun w_14 e_w_14 => ?_)
          have e2_w_14 : w_14 = (w_12) / 16 := by omega
          obtain ⟨hle_w_14, hn_w_14⟩ := ntz_sh (n := 4) hcur (by decide) (show (16 : Int) < w_12 by omega)
          rw [← e2_w_14] at hn_w_14
          have hcur := hn_w_14
          refine lv_istore_n (lv' := [(0, .int (iI (w_14))), (1, .int (iI (((1 + 16) + 8) + 4)))]) hx hb dJ13_numberOfTrailingZeros_61 rfl hl (by decide) rfl (fun ls hl => ?_)
          refine lv_iload_n hx hb dJ13_numberOfTrailingZeros_62 rfl (lv_at hl 0 rfl) ?_
          refine xi_iconst hx hb dJ13_numberOfTrailingZeros_63 ?_
          refine xi_icmp_le (tgt := 74) hx hb dJ13_numberOfTrailingZeros_64 (by decide) (by omega) (by omega) (fun c_64 => ?_) (fun c_64 => ?_)
          · skip
            refine lv_iload_n hx hb dJ13_numberOfTrailingZeros_74 rfl (lv_at hl 1 rfl) ?_
            refine lv_iload_n hx hb dJ13_numberOfTrailingZeros_75 rfl (lv_at hl 0 rfl) ?_
            refine xi_iconst hx hb dJ13_numberOfTrailingZeros_76 ?_
            refine xi_iushrL 2 hx hb (by decide) (by decide) dJ13_numberOfTrailingZeros_77 ?_
            refine xi_iadd hx hb dJ13_numberOfTrailingZeros_78 ?_
            exact x_ret0i hx hb hr hlk hH (by have gb_ := ntz_b hcur (by omega) (by omega); omega) dJ13_numberOfTrailingZeros_79
          · skip
            refine xi_iinc (lv' := [(1, .int (iI ((((1 + 16) + 8) + 4) + 2))), (0, .int (iI (w_14)))]) hx hb dJ13_numberOfTrailingZeros_67 hl (k := 1) rfl (by decide) rfl (fun ls hl => ?_)
            refine lv_iload_n hx hb dJ13_numberOfTrailingZeros_70 rfl (lv_at hl 1 rfl) ?_
            refine xi_iconst hx hb dJ13_numberOfTrailingZeros_71 ?_
            refine xi_iushrL 4 hx hb (by decide) (by decide) dJ13_numberOfTrailingZeros_72 ?_
            refine xi_name (fun w_15 e_w_15 => ?_)
            have e2_w_15 : w_15 = (w_14) / 4 := by omega
            obtain ⟨hle_w_15, hn_w_15⟩ := ntz_sh (n := 2) hcur (by decide) (show (4 : Int) < w_14 by omega)
            rw [← e2_w_15] at hn_w_15
            have hcur := hn_w_15
            refine lv_istore_n (lv' := [(0, .int (iI (w_15))), (1, .int (iI ((((1 + 16) + 8) + 4) + 2)))]) hx hb dJ13_numberOfTrailingZeros_73 rfl hl (by decide) rfl (fun ls hl => ?_)
            refine lv_iload_n hx hb dJ13_numberOfTrailingZeros_74 rfl (lv_at hl 1 rfl) ?_
            refine lv_iload_n hx hb dJ13_numberOfTrailingZeros_75 rfl (lv_at hl 0 rfl) ?_
            refine xi_iconst hx hb dJ13_numberOfTrailingZeros_76 ?_
            refine xi_iushrL 2 hx hb (by decide) (by decide) dJ13_numberOfTrailingZeros_77 ?_
            refine xi_iadd hx hb dJ13_numberOfTrailingZeros_78 ?_
            exact x_ret0i hx hb hr hlk hH (by have gb_ := ntz_b hcur (by omega) (by omega); omega) dJ13_numberOfTrailingZeros_79
  · skip
    refine lv_iload_n hx hb dJ13_numberOfTrailingZeros_12 rfl (lv_at hl 0 rfl) ?_
    refine xi_bipush hx hb (by decide) dJ13_numberOfTrailingZeros_13 ?_
    refine xi_iand hx hb dJ13_numberOfTrailingZeros_15 ?_
    exact x_ret0i hx hb hr hlk hH (by obtain ⟨z1_, z2_⟩ := ntz_0 hcur c_9; rw [z1_, z2_]; rfl) dJ13_numberOfTrailingZeros_16

theorem hpJ15_bitLengthForInt : plainFor yJ15_bitLengthForInt = true := by decide +kernel
theorem hdJ15_bitLengthForInt : nMH yJ15_bitLengthForInt 1 := by decide +kernel
set_option maxHeartbeats 4000000 in
theorem c_J15_bitLengthForInt (l : Launch) (G : GG) (H0 : Heap) (i : Int) (r_i : -2147483648 ≤ i ∧ i < 2147483648) : Ct0 l G yJ15_bitLengthForInt cJ15_bitLengthForInt 1 (Option.some Jvm.ClassFile.FieldType.int) 1 21 [.int (iI (i))] H0 (.int (iI (if i = 0 then 0 else if i < 0 then 32 else lgZ i + 1))) := by
  refine Ct0.start hpJ15_bitLengthForInt (Nat.le_of_ble_eq_true rfl) ?_
  intro p e s m below meth c ls hx hb hr S hlk hH hK hl
  have hl : lv_has ls 1 [(0, .int (iI (i)))] := hl
  refine xi_bipush hx hb (by decide) dJ15_bitLengthForInt_0 ?_
  refine lv_iload_n hx hb dJ15_bitLengthForInt_2 rfl (lv_at hl 0 rfl) ?_
  refine x_c0S (as := [.int (iI (i))]) (rest := [.int (iI (32))]) S hK (c_J13_numberOfLeadingZeros l G H0 (i) (by omega) ) q1439 q1440 q58 q1441 hdJ13_numberOfLeadingZeros ⟨by decide, by decide⟩ hl.1 rfl rfl (Nat.le_of_ble_eq_true rfl) ⟨Nat.le_of_ble_eq_true rfl, Nat.le_of_ble_eq_true rfl⟩ dJ15_bitLengthForInt_3 ?_
  refine xi_isub hx hb dJ15_bitLengthForInt_6 ?_
  exact x_ret0i hx hb hr hlk hH (by (repeat (first | with_reducible refine ifp (by omega) ?_ | with_reducible refine ifn (by omega) ?_)); first | omega | (split <;> omega) | (simp only []; split <;> (try split) <;> omega)) dJ15_bitLengthForInt_7

theorem hpJ11_floorDiv : plainFor yJ11_floorDiv = true := by decide +kernel
theorem hdJ11_floorDiv : nMH yJ11_floorDiv 2 := by decide +kernel
set_option maxHeartbeats 4000000 in
theorem c_J11_floorDiv (l : Launch) (G : GG) (H0 : Heap) (x : Int) (y : Int) (r_x : -9223372036854775808 ≤ x ∧ x < 9223372036854775808) (r_y : -9223372036854775808 ≤ y ∧ y < 9223372036854775808) (hy : 0 < y) : Ct0 l G yJ11_floorDiv cJ11_floorDiv 6 (Option.some Jvm.ClassFile.FieldType.long) 0 0 [.long (jI (x)), .long (jI (y))] H0 (.long (jI (x / y))) := by
  refine Ct0.start hpJ11_floorDiv (Nat.le_of_ble_eq_true rfl) ?_
  intro p e s m below meth c ls hx hb hr S hlk hH hK hl
  have hl : lv_has ls 6 [(0, .long (jI (x))), (2, .long (jI (y)))] := hl
  have xs_ := xorJ_s r_x ⟨Int.le_of_lt hy, r_y.2⟩
  have xs2_ : (x < 0 ∧ 9223372036854775808 ≤ xorJ x y ∧ xorJ x y < 18446744073709551616) ∨ (0 ≤ x ∧ 0 ≤ xorJ x y ∧ xorJ x y < 9223372036854775808) := by rcases Int.lt_or_le x 0 with q | q; exact Or.inl ⟨q, xs_.1 q⟩; exact Or.inr ⟨q, xs_.2 q⟩
  refine lv_lload_n hx hb dJ11_floorDiv_0 rfl (lv_at hl 0 rfl) ?_
  refine lv_lload_n hx hb dJ11_floorDiv_1 rfl (lv_at hl 1 rfl) ?_
  refine xi_ldiv hx hb (by omega) (by omega) (by omega) (by omega) dJ11_floorDiv_2 ?_
  refine xj_name (fun dv e_dv => ?_)
  have td_ := tdm x y hy
  rw [← e_dv] at td_
  have fd_ := fdv hy e_dv
  refine lv_lstore (lv' := [(4, .long (jI (dv))), (0, .long (jI (x))), (2, .long (jI (y)))]) hx hb dJ11_floorDiv_3 hl (by decide) rfl (fun ls hl => ?_)
  refine lv_lload_n hx hb dJ11_floorDiv_5 rfl (lv_at hl 1 rfl) ?_
  refine lv_lload_n hx hb dJ11_floorDiv_6 rfl (lv_at hl 2 rfl) ?_
  refine xi_lxor hx hb dJ11_floorDiv_7 ?_
  refine xj_wrap (fun xx r_xx e_xx => ?_)
  obtain ⟨q_xx, e_xx⟩ := e_xx
  refine xi_lconst (z := 0) hx hb (by decide +kernel) dJ11_floorDiv_8 ?_
  refine xi_lcmp hx hb (by omega) (by omega) dJ11_floorDiv_9 ?_
  refine xi_ifz_ge (tgt := 27) hx hb dJ11_floorDiv_10 (by decide) (fun c_10 => ?_) (fun c_10 => ?_)
  · skip
    refine lv_lload hx hb dJ11_floorDiv_27 (lv_at hl 0 rfl) ?_
    exact x_ret0j hx hb hr hlk hH (by first | exact (fd_.1 (by omega)) | exact (fd_.2.1 (by omega) (by omega))) dJ11_floorDiv_29
  · skip
    refine lv_lload hx hb dJ11_floorDiv_13 (lv_at hl 0 rfl) ?_
    refine lv_lload_n hx hb dJ11_floorDiv_15 rfl (lv_at hl 2 rfl) ?_
    refine xi_lmul hx hb dJ11_floorDiv_16 ?_
    refine xj_name (fun qq e_qq => ?_)
    have eq_ : qq = y * dv := by rw [e_qq, Int.mul_comm]
    refine lv_lload_n hx hb dJ11_floorDiv_17 rfl (lv_at hl 1 rfl) ?_
    refine xi_lcmp hx hb (by omega) (by omega) dJ11_floorDiv_18 ?_
    refine xi_ifz_eq (tgt := 27) hx hb dJ11_floorDiv_19 (by decide) (fun c_19 => ?_) (fun c_19 => ?_)
    · skip
      refine lv_lload hx hb dJ11_floorDiv_27 (lv_at hl 0 rfl) ?_
      exact x_ret0j hx hb hr hlk hH (by first | exact (fd_.1 (by omega)) | exact (fd_.2.1 (by omega) (by omega))) dJ11_floorDiv_29
    · skip
      refine lv_lload hx hb dJ11_floorDiv_22 (lv_at hl 0 rfl) ?_
      refine xi_lconst (z := 1) hx hb (by decide +kernel) dJ11_floorDiv_24 ?_
      refine xi_lsub hx hb dJ11_floorDiv_25 ?_
      exact x_ret0j hx hb hr hlk hH (by exact (fd_.2.2 (by omega) (by omega))) dJ11_floorDiv_26

