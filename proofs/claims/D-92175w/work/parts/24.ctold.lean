/-! ===== the component: told (printed by h24.py) ===== -/
theorem i32_div10 (w : Int32) : (w / 10).toInt = w.toInt.tdiv 10 := by
  have h1 := Int32.toInt_div w 10
  have h2 := Int32.minValue_le_toInt w
  have h3 := Int32.toInt_le w
  rw [h1, show (10 : Int32).toInt = 10 from rfl]
  have hb : -2147483648 ≤ w.toInt.tdiv 10 ∧ w.toInt.tdiv 10 ≤ 2147483647 := by
    have a1 : Int32.minValue.toInt = -2147483648 := rfl
    have a2 : Int32.maxValue.toInt = 2147483647 := rfl
    rcases Int.le_total 0 w.toInt with z | z
    · rw [Int.tdiv_eq_ediv_of_nonneg z]
      omega
    · have e : w.toInt.tdiv 10 = -((-w.toInt).tdiv 10) := by rw [Int.neg_tdiv, Int.neg_neg]
      rw [e, Int.tdiv_eq_ediv_of_nonneg (by omega)]
      omega
  exact Int.bmod_eq_of_le (by omega) (by omega)
theorem told_j (w : Int32) : inB (w / 10 - 1) 0 2 = true ↔ ∃ b : Nat, w = nI b ∧ 10 ≤ b ∧ b ≤ 39 := by
  constructor
  · intro h
    obtain ⟨j, hj, -, hj2⟩ := inB_n (a := 0) (b := 2) rfl rfl (by decide) (by decide) h
    have e : w / 10 = nI (j + 1) := by rw [← nI_1, ← hj]; grind
    have e2 := i32_div10 w
    rw [e, nI_toInt (by omega)] at e2
    have h0 : ¬ w < 0 := fun z => by
      rw [Int32.lt_iff_toInt_lt, show (0 : Int32).toInt = 0 from rfl] at z
      have e3 : w.toInt.tdiv 10 = -((-w.toInt).tdiv 10) := by rw [Int.neg_tdiv, Int.neg_neg]
      rw [e3, Int.tdiv_eq_ediv_of_nonneg (by omega)] at e2
      omega
    obtain ⟨b, hb, rfl⟩ := nI_of h0
    rw [nI_toInt hb, Int.tdiv_eq_ediv_of_nonneg (by omega)] at e2
    exact ⟨b, rfl, by omega, by omega⟩
  · rintro ⟨b, rfl, h1, h2⟩
    have e1 : nI b / 10 = nI (b / 10) := pk_div (d := 10) (by omega) (by decide) (by decide)
    rw [e1, show nI (b / 10) - 1 = nI (b / 10 - 1) from pk_sub (b := 1) (by omega)]
    exact inB_t.mpr ⟨nI_pos' (by omega), (nI_leI (b := 2) (by omega) (by decide)).mpr (by omega)⟩
theorem lkT_n {g : Tg} {L k : Nat} (h : g L 3 = 0 ∨ g L 3 = 1) (hk : k ≤ 3) : lkT g L (nI k) = g L k := by
  rcases (show k = 0 ∨ k = 1 ∨ k = 2 ∨ k = 3 by omega) with e | e | e | e <;> subst e
  · rfl
  · rfl
  · rfl
  · show (if g L 3 = 0 then (0 : Int32) else 1) = g L 3
    rcases h with h | h <;> rw [h] <;> rfl
theorem ltT_n {g : Tg} {L k : Nat} (h : g L 3 = 0 ∨ g L 3 = 1) (hk : k ≤ 5) : ltT g L (nI k) = g L k := by
  rcases (show k = 4 ∨ k = 5 ∨ k ≤ 3 by omega) with e | e | e
  · subst e; rfl
  · subst e; rfl
  · unfold ltT
    rw [if_neg (show ¬ nI k = 4 from fun z => by have := (nI_eq (b := 4) (by omega) (by decide)).mp z; omega), if_neg (show ¬ nI k = 5 from fun z => by have := (nI_eq (b := 5) (by omega) (by decide)).mp z; omega)]
    exact lkT_n h e
/-- the reference's answer, by the plan's number -/
def toldR (g : Tg) (p : Nat) (w : Int32) : Int32 := if inB w 0 4 then g 22 (23 * nI p + w).toNatClampNeg else if inB w 10 35 then (if w - w / 10 * 10 ≤ (if w / 10 - 1 = 0 then 3 else 5) then g 22 (23 * nI p + 5 + 6 * (w / 10 - 1) + (w - w / 10 * 10)).toNatClampNeg else -3) else -3
theorem vcX11_told_0e {G : Gl} {ad : Nat → Nat} {cn : Cn} {h0 : Hp} {Q : Option Value → Tg → Prop} (g : Tg) (f : Tf) (gt : Tg) (P : Nat) (w : Int32) (hP1 : P < cP cn) (hv : ((w = 0 → Q (some (.int (g (60 + 8 * P) 0))) g) ∧ (w = 1 → Q (some (.int (g (60 + 8 * P) 1))) g) ∧ (w = 2 → Q (some (.int (g (60 + 8 * P) 2))) g) ∧ (w = 3 → Q (some (.int (g (60 + 8 * P) 3))) g) ∧ (w = 4 → Q (some (.int (g (60 + 8 * P) 5))) g) ∧ (¬ w = 0 → ¬ w = 1 → ¬ w = 2 → ¬ w = 3 → ¬ w = 4 → (((inB ((w / 10) - 1) 0 2) = false → Q (some (.int (-3))) g) ∧ ((inB ((w / 10) - 1) 0 2) = true → ((¬ ((w / 10) - 1) = 0 → (((w - w / 10 * 10) ≤ 5 → (((g (60 + 8 * P) 5) ≤ ((w / 10) - 1) → Q (some (.int (-1))) g) ∧ (¬ (g (60 + 8 * P) 5) ≤ ((w / 10) - 1) → (vp_in ((w / 10) - 1) 3) ∧ (((w / 10) - 1).toNatClampNeg < cS cn P) ∧ Q (some (.int (toldC g (63 + 8 * P + (((w / 10) - 1).toNatClampNeg)) (((w / 10) - 1).toNatClampNeg) (w - w / 10 * 10)))) g))) ∧ (¬ (w - w / 10 * 10) ≤ 5 → Q (some (.int (-3))) g))) ∧ (((w / 10) - 1) = 0 → (((w - w / 10 * 10) ≤ 3 → (((g (60 + 8 * P) 5) ≤ ((w / 10) - 1) → Q (some (.int (-1))) g) ∧ (¬ (g (60 + 8 * P) 5) ≤ ((w / 10) - 1) → (vp_in ((w / 10) - 1) 3) ∧ (((w / 10) - 1).toNatClampNeg < cS cn P) ∧ Q (some (.int (toldC g (63 + 8 * P + (((w / 10) - 1).toNatClampNeg)) (((w / 10) - 1).toNatClampNeg) (w - w / 10 * 10)))) g))) ∧ (¬ (w - w / 10 * 10) ≤ 3 → Q (some (.int (-3))) g))))))))) :
    AWC G ad cn h0 MX11_told Q g 0 [(0, .ref (ad (60 + 8 * P))), (1, .int w)] [] := by
  refine AWC_iload_n (pc := 0) dX11_told_0 rfl 1 rfl ?_
  by_cases c1_0 : w = 0
  · have hv1 := hv.1 c1_0
    refine AWC_tableIn (pc := 1) (tgt := 36) dX11_told_1 (by rw [c1_0]; decide) (by rw [c1_0]; decide) (off := 35) (by rw [c1_0]; decide) (by decide) ?_
    refine AWC_aload_n (pc := 36) dX11_told_36 rfl 0 rfl ?_
    refine AWC_getI (pc := 37) (60 + 8 * P) 0 (kB_plan hP1) clX11 (by decide) rfl (FL.o q466) dX11_told_37 ?_
    exact AWC_iret (pc := 40) rfl rfl dX11_told_40 hv1
  by_cases c1_1 : w = 1
  · have hv1 := hv.2.1 c1_1
    refine AWC_tableIn (pc := 1) (tgt := 41) dX11_told_1 (by rw [c1_1]; decide) (by rw [c1_1]; decide) (off := 40) (by rw [c1_1]; decide) (by decide) ?_
    refine AWC_aload_n (pc := 41) dX11_told_41 rfl 0 rfl ?_
    refine AWC_getI (pc := 42) (60 + 8 * P) 1 (kB_plan hP1) clX11 (by decide) rfl (FL.o q471) dX11_told_42 ?_
    exact AWC_iret (pc := 45) rfl rfl dX11_told_45 hv1
  by_cases c1_2 : w = 2
  · have hv1 := hv.2.2.1 c1_2
    refine AWC_tableIn (pc := 1) (tgt := 46) dX11_told_1 (by rw [c1_2]; decide) (by rw [c1_2]; decide) (off := 45) (by rw [c1_2]; decide) (by decide) ?_
    refine AWC_aload_n (pc := 46) dX11_told_46 rfl 0 rfl ?_
    refine AWC_getI (pc := 47) (60 + 8 * P) 2 (kB_plan hP1) clX11 (by decide) rfl (FL.o q474) dX11_told_47 ?_
    exact AWC_iret (pc := 50) rfl rfl dX11_told_50 hv1
  by_cases c1_3 : w = 3
  · have hv1 := hv.2.2.2.1 c1_3
    refine AWC_tableIn (pc := 1) (tgt := 51) dX11_told_1 (by rw [c1_3]; decide) (by rw [c1_3]; decide) (off := 50) (by rw [c1_3]; decide) (by decide) ?_
    refine AWC_aload_n (pc := 51) dX11_told_51 rfl 0 rfl ?_
    refine AWC_getI (pc := 52) (60 + 8 * P) 3 (kB_plan hP1) clX11 (by decide) rfl (FL.o q478) dX11_told_52 ?_
    exact AWC_iret (pc := 55) rfl rfl dX11_told_55 hv1
  by_cases c1_4 : w = 4
  · have hv1 := hv.2.2.2.2.1 c1_4
    refine AWC_tableIn (pc := 1) (tgt := 56) dX11_told_1 (by rw [c1_4]; decide) (by rw [c1_4]; decide) (off := 55) (by rw [c1_4]; decide) (by decide) ?_
    refine AWC_aload_n (pc := 56) dX11_told_56 rfl 0 rfl ?_
    refine AWC_getI (pc := 57) (60 + 8 * P) 5 (kB_plan hP1) clX11 (by decide) rfl (FL.o q485) dX11_told_57 ?_
    exact AWC_iret (pc := 60) rfl rfl dX11_told_60 hv1
  have hv1 := hv.2.2.2.2.2 c1_0 c1_1 c1_2 c1_3 c1_4
  have hdf : AWC G ad cn h0 MX11_told Q g 61 [(0, .ref (ad (60 + 8 * P))), (1, .int w)] [] := by
    refine AWC_iload_n (pc := 61) dX11_told_61 rfl 1 rfl ?_
    refine AWC_bipush (pc := 62) (v := 10) dX11_told_62 (by decide) ?_
    refine AWC_idiv (pc := 64) dX11_told_64 (by decide) ?_
    refine AWC_iconst (pc := 65) (v := 1) dX11_told_65 (by decide) ?_
    refine AWC_isub (pc := 66) dX11_told_66 ?_
    refine AWC_istore_n (pc := 67) (lv' := [(2, .int ((w / 10) - 1)), (0, .ref (ad (60 + 8 * P))), (1, .int w)]) dX11_told_67 rfl (by decide) rfl ?_
    refine AWC_iload_n (pc := 68) dX11_told_68 rfl 2 rfl ?_
    refine AWC_bipush (pc := 69) (v := 10) dX11_told_69 (by decide) ?_
    refine AWC_irem (pc := 71) dX11_told_71 (by decide) ?_
    refine AWC_istore_n (pc := 72) (lv' := [(3, .int (w - w / 10 * 10)), (2, .int ((w / 10) - 1)), (0, .ref (ad (60 + 8 * P))), (1, .int w)]) dX11_told_72 rfl (by decide) rfl ?_
    refine AWC_iload_n (pc := 73) dX11_told_73 rfl 1 rfl ?_
    refine AWC_i2l (pc := 74) dX11_told_74 ?_
    refine AWC_lconst (pc := 75) (v := 0) dX11_told_75 (by decide) ?_
    refine AWC_ldc2 (pc := 76) q761 dX11_told_76 ?_
    refine AWC_callS (M' := MX0_isIn) (pc := 79) [.long (Int32.toInt64 ((w / 10) - 1)), .long 0, .long 2] [] nmX0_isIn ⟨rfl, rfl⟩ (ML.n q762) q355 q73 q356 dX11_told_79 rfl rfl (Nat.le_of_ble_eq_true rfl) ⟨Nat.le_of_ble_eq_true rfl, Nat.le_of_ble_eq_true rfl⟩ (mcX0_isInI cn g ((w / 10) - 1) 0 2 (Int32.toInt64 ((w / 10) - 1)) 0 2 rfl rfl rfl) ?_
    rintro _ _ ⟨rfl, rfl⟩
    refine AWC_ifb_eq (pc := 82) (tgt := 98) dX11_told_82 (by decide) (fun c2 => ?_) (fun c2 => ?_)
    · have hv1 := hv1.1 c2
      refine AWC_bipush (pc := 98) (v := (-3)) dX11_told_98 (by decide) ?_
      exact AWC_iret (pc := 100) rfl rfl dX11_told_100 hv1
    · have hv1 := hv1.2 c2
      refine AWC_iload_n (pc := 85) dX11_told_85 rfl 0 rfl ?_
      refine AWC_iload_n (pc := 86) dX11_told_86 rfl 1 rfl ?_
      refine AWC_if_ne (pc := 87) (tgt := 94) dX11_told_87 (by decide) (fun c3 => ?_) (fun c3 => ?_)
      · have hv1 := hv1.1 c3
        refine AWC_iconst (pc := 94) (v := 5) dX11_told_94 (by decide) ?_
        refine AWC_icmp_le (pc := 95) (tgt := 101) dX11_told_95 (by decide) (fun c4 => ?_) (fun c4 => ?_)
        · have hv1 := hv1.1 c4
          refine AWC_iload_n (pc := 101) dX11_told_101 rfl 1 rfl ?_
          refine AWC_aload_n (pc := 102) dX11_told_102 rfl 2 rfl ?_
          refine AWC_getI (pc := 103) (60 + 8 * P) 5 (kB_plan hP1) clX11 (by decide) rfl (FL.o q485) dX11_told_103 ?_
          refine AWC_icmp_ge (pc := 106) (tgt := 122) dX11_told_106 (by decide) (fun c5 => ?_) (fun c5 => ?_)
          · have hv1 := hv1.1 c5
            refine AWC_iconst (pc := 122) (v := (-1)) dX11_told_122 (by decide) ?_
            exact AWC_iret (pc := 123) rfl rfl dX11_told_123 hv1
          · have hv1 := hv1.2 c5
            refine AWC_aload_n (pc := 109) dX11_told_109 rfl 2 rfl ?_
            refine AWC_getR (pc := 110) (60 + 8 * P) 4 (61 + 8 * P) (kB_plan hP1) (rB_pf 4) clX11 (by decide) rfl (FL.o q482) dX11_told_110 ?_
            refine AWC_iload_n (pc := 113) dX11_told_113 rfl 1 rfl ?_
            have h_6 := hv1.1
            have hv1 := hv1.2
            have h_7 := hv1.1
            have hv1 := hv1.2
            refine AWC_aald (pc := 114) (b := 61 + 8 * P) (b' := 63 + 8 * P + (((w / 10) - 1).toNatClampNeg)) (t := 7) (n := 3) (kB_steps hP1) (rB_look h_7) (by decide) (by decide) dX11_told_114 h_6 ?_
            refine AWC_iload_n (pc := 115) dX11_told_115 rfl 0 rfl ?_
            refine AWC_told (pc := 116) P (((w / 10) - 1).toNatClampNeg) (w - w / 10 * 10) [] hP1 h_7 (vp_lt h_6) q763 dX11_told_116 rfl (Nat.le_of_ble_eq_true rfl) ⟨Nat.le_of_ble_eq_true rfl, Nat.le_of_ble_eq_true rfl⟩ ⟨Nat.le_of_ble_eq_true rfl, Nat.le_of_ble_eq_true rfl⟩ ?_
            refine AWC_goto (pc := 119) (tgt := 123) dX11_told_119 (by decide) ?_
            exact AWC_iret (pc := 123) rfl rfl dX11_told_123 hv1
        · have hv1 := hv1.2 c4
          refine AWC_bipush (pc := 98) (v := (-3)) dX11_told_98 (by decide) ?_
          exact AWC_iret (pc := 100) rfl rfl dX11_told_100 hv1
      · have hv1 := hv1.2 c3
        refine AWC_iconst (pc := 90) (v := 3) dX11_told_90 (by decide) ?_
        refine AWC_goto (pc := 91) (tgt := 95) dX11_told_91 (by decide) ?_
        refine AWC_icmp_le (pc := 95) (tgt := 101) dX11_told_95 (by decide) (fun c8 => ?_) (fun c8 => ?_)
        · have hv1 := hv1.1 c8
          refine AWC_iload_n (pc := 101) dX11_told_101 rfl 1 rfl ?_
          refine AWC_aload_n (pc := 102) dX11_told_102 rfl 2 rfl ?_
          refine AWC_getI (pc := 103) (60 + 8 * P) 5 (kB_plan hP1) clX11 (by decide) rfl (FL.o q485) dX11_told_103 ?_
          refine AWC_icmp_ge (pc := 106) (tgt := 122) dX11_told_106 (by decide) (fun c9 => ?_) (fun c9 => ?_)
          · have hv1 := hv1.1 c9
            refine AWC_iconst (pc := 122) (v := (-1)) dX11_told_122 (by decide) ?_
            exact AWC_iret (pc := 123) rfl rfl dX11_told_123 hv1
          · have hv1 := hv1.2 c9
            refine AWC_aload_n (pc := 109) dX11_told_109 rfl 2 rfl ?_
            refine AWC_getR (pc := 110) (60 + 8 * P) 4 (61 + 8 * P) (kB_plan hP1) (rB_pf 4) clX11 (by decide) rfl (FL.o q482) dX11_told_110 ?_
            refine AWC_iload_n (pc := 113) dX11_told_113 rfl 1 rfl ?_
            have h_10 := hv1.1
            have hv1 := hv1.2
            have h_11 := hv1.1
            have hv1 := hv1.2
            refine AWC_aald (pc := 114) (b := 61 + 8 * P) (b' := 63 + 8 * P + (((w / 10) - 1).toNatClampNeg)) (t := 7) (n := 3) (kB_steps hP1) (rB_look h_11) (by decide) (by decide) dX11_told_114 h_10 ?_
            refine AWC_iload_n (pc := 115) dX11_told_115 rfl 0 rfl ?_
            refine AWC_told (pc := 116) P (((w / 10) - 1).toNatClampNeg) (w - w / 10 * 10) [] hP1 h_11 (vp_lt h_10) q763 dX11_told_116 rfl (Nat.le_of_ble_eq_true rfl) ⟨Nat.le_of_ble_eq_true rfl, Nat.le_of_ble_eq_true rfl⟩ ⟨Nat.le_of_ble_eq_true rfl, Nat.le_of_ble_eq_true rfl⟩ ?_
            refine AWC_goto (pc := 119) (tgt := 123) dX11_told_119 (by decide) ?_
            exact AWC_iret (pc := 123) rfl rfl dX11_told_123 hv1
        · have hv1 := hv1.2 c8
          refine AWC_bipush (pc := 98) (v := (-3)) dX11_told_98 (by decide) ?_
          exact AWC_iret (pc := 100) rfl rfl dX11_told_100 hv1
  have c1_0 := lv_neT c1_0 (a := 0) (by decide)
  have c1_1 := lv_neT c1_1 (a := 1) (by decide)
  have c1_2 := lv_neT c1_2 (a := 2) (by decide)
  have c1_3 := lv_neT c1_3 (a := 3) (by decide)
  have c1_4 := lv_neT c1_4 (a := 4) (by decide)
  exact AWC_tableOut (pc := 1) (tgt := 61) dX11_told_1 (by omega) (by decide) hdf
theorem mcX11_told {G : Gl} {ad : Nat → Nat} (cn : Cn) (g : Tg) (f : Tf) (gt : Tg) (P : Nat) (w : Int32) (hP1 : P < cP cn) (h1 : LPl cn g f gt P) : MCC G ad cn MX11_told [.ref (ad (60 + 8 * P)), .int w] g (fun v0 g1 => v0 = some (.int (toldR gt P w)) ∧ g = g1) := by
  refine MCC.of ⟨rfl, rfl⟩ (by decide) (Nat.le_of_ble_eq_true rfl) rfl (fun h0 => vcX11_told_0e g f gt P w hP1 ?_)
  have hP5 := h1.2.1.1
  have hrow := h1.1.2.2.2.2.2.1 P hP1
  obtain ⟨b1, b2, b3, b4, b5, b6⟩ := hrow
  have small : ∀ k : Nat, k < 5 → toldR gt P (nI k) = gt 22 (23 * P + k) := by
    intro k hk
    have e : inB (nI k) 0 4 = true := inB_t.mpr ⟨nI_pos' (by omega), (nI_leI (b := 4) (by omega) (by decide)).mpr (by omega)⟩
    unfold toldR
    rw [e, if_pos rfl, lm 23 P, nI_add, nc (23 * P + k)]
  refine ⟨fun c => ?_, fun c => ?_, fun c => ?_, fun c => ?_, fun c => ?_, fun c0 c1 c2 c3 c4 => ?_⟩
  · subst c; exact ⟨by rw [b1]; exact congrArg (fun z => some (Value.int z)) (small 0 (by decide)).symm, rfl⟩
  · subst c; exact ⟨by rw [b2]; exact congrArg (fun z => some (Value.int z)) (small 1 (by decide)).symm, rfl⟩
  · subst c; exact ⟨by rw [b3]; exact congrArg (fun z => some (Value.int z)) (small 2 (by decide)).symm, rfl⟩
  · subst c; exact ⟨by rw [b4]; exact congrArg (fun z => some (Value.int z)) (small 3 (by decide)).symm, rfl⟩
  · subst c; exact ⟨by rw [b5]; exact congrArg (fun z => some (Value.int z)) (small 4 (by decide)).symm, rfl⟩
  · have e04 : inB w 0 4 = false := by
      rw [← Bool.not_eq_true]
      intro z
      obtain ⟨b, rfl, -, hb⟩ := inB_n (a := 0) (b := 4) rfl rfl (by decide) (by decide) z
      rcases (show b = 0 ∨ b = 1 ∨ b = 2 ∨ b = 3 ∨ b = 4 by omega) with e | e | e | e | e <;> subst e
      · exact c0 rfl
      · exact c1 rfl
      · exact c2 rfl
      · exact c3 rfl
      · exact c4 rfl
    refine ⟨fun c => ?_, fun c => ?_⟩
    · have e35 : inB w 10 35 = false := by
        rw [← Bool.not_eq_true]
        intro z
        obtain ⟨b, rfl, hb1, hb⟩ := inB_n (a := 10) (b := 35) rfl rfl (by decide) (by decide) z
        rw [(told_j (nI b)).mpr ⟨b, rfl, hb1, by omega⟩] at c
        cases c
      simp [toldR, e04, e35]
    · obtain ⟨b, rfl, hb1, hb2⟩ := (told_j w).mp c
      have e1 : nI b / 10 - 1 = nI (b / 10 - 1) := by
        rw [show nI b / 10 = nI (b / 10) from pk_div (d := 10) (by omega) (by decide) (by decide)]
        exact pk_sub (b := 1) (by omega)
      have e2 : nI b - nI b / 10 * 10 = nI (b % 10) := pk_rem (d := 10) (by omega) (by decide) (by decide)
      obtain ⟨nn, s, hn0, hn4', hn12, hnN, hsv, hsK, hs1, hs3, hst, hk, hl⟩ := h1.2.1.nums
      have hcS := h1.2.2.2.2
      have main : ∀ M : Nat, (if b / 10 - 1 = 0 then 3 else 5) = M → b % 10 ≤ M → ((g (60 + 8 * P) 5 ≤ nI (b / 10 - 1) → (some (Value.int (-1)) : Option Value) = some (.int (toldR gt P (nI b))) ∧ g = g) ∧ (¬ g (60 + 8 * P) 5 ≤ nI (b / 10 - 1) → vp_in (nI (b / 10 - 1)) 3 ∧ (nI (b / 10 - 1)).toNatClampNeg < cS cn P ∧ (some (Value.int (toldC g (63 + 8 * P + (nI (b / 10 - 1)).toNatClampNeg) (nI (b / 10 - 1)).toNatClampNeg (nI (b % 10)))) : Option Value) = some (.int (toldR gt P (nI b))) ∧ g = g)) := by
        intro M hM hle
        have e35 : inB (nI b) 10 35 = true := inB_t.mpr ⟨(nI_leI (a := 10) (by decide) (by omega)).mpr hb1, (nI_leI (b := 35) (by omega) (by decide)).mpr (by split at hM <;> omega)⟩
        have eT : toldR gt P (nI b) = gt 22 (23 * P + 5 + 6 * (b / 10 - 1) + b % 10) := by
          unfold toldR
          rw [e04, e35, e2, e1, if_neg (by decide), if_pos rfl, if_pos, lm 23 P, ra _ 5, lm 6, nI_add, nI_add, nc (23 * P + 5 + 6 * (b / 10 - 1) + b % 10)]
          by_cases z : b / 10 - 1 = 0
          · rw [if_pos z] at hM
            rw [if_pos (by rw [z]; rfl)]
            exact (nI_leI (b := 3) (by omega) (by decide)).mpr (by omega)
          · rw [if_neg z] at hM
            rw [if_neg (show ¬ nI (b / 10 - 1) = 0 from fun y => z ((nI_eq (b := 0) (by omega) (by decide)).mp y))]
            exact (nI_leI (b := 5) (by omega) (by decide)).mpr (by omega)
        rw [eT, b5, hsv]
        refine pk_le s (b / 10 - 1) (fun z => ⟨?_, rfl⟩) (fun z => ?_)
        · obtain ⟨_, _, _, _, s', -, -, -, -, -, -, -, -, -, hs', -, hs3', -, hno⟩ := h1.2.1.2.1
          have : s' = s := (nI_eq (by omega) (by omega)).mp (hs'.symm.trans hsv)
          rw [hno (b / 10 - 1) (by omega) (by omega) (b % 10) (by split at hM <;> omega)]
        · rw [nc (b / 10 - 1)]
          refine ⟨vp_in_nI (by omega) (by decide), by omega, ?_, rfl⟩
          have hlk := h1.look (j := b / 10 - 1) (by omega)
          have hkv : g (63 + 8 * P + (b / 10 - 1)) (b % 10) = gt 22 (23 * P + 5 + 6 * (b / 10 - 1) + b % 10) := hlk.1 (b % 10) (by split at hM <;> split <;> omega)
          rw [← hkv]
          unfold toldC
          by_cases y : b / 10 - 1 = 0
          · rw [if_pos y, lkT_n hlk.2.1 (by rw [if_pos y] at hM; omega)]
          · rw [if_neg y, ltT_n hlk.2.1 (by rw [if_neg y] at hM; omega)]
      rw [e1, e2]
      refine ⟨fun z => pk_le (b % 10) 5 (fun y => ?_) (fun y => ?_), fun z => pk_le (b % 10) 3 (fun y => ?_) (fun y => ?_)⟩
      · exact main 5 (if_neg (fun x => z (by rw [x]; rfl))) y
      · refine ⟨?_, rfl⟩
        unfold toldR
        rw [e04, e2, e1, if_neg (by decide), if_neg z, if_neg (show ¬ nI (b % 10) ≤ 5 from fun x => by have := (nI_leI (b := 5) (by omega) (by decide)).mp x; omega)]
        simp
      · exact main 3 (if_pos ((nI_eq (b := 0) (by omega) (by decide)).mp z)) y
      · refine ⟨?_, rfl⟩
        unfold toldR
        rw [e04, e2, e1, if_neg (by decide), if_pos z, if_neg (show ¬ nI (b % 10) ≤ 3 from fun x => by have := (nI_leI (b := 3) (by omega) (by decide)).mp x; omega)]
        simp
abbrev MX0_told : Mi := (yX0_told, cX0_told, 3, some .int, { frames := 3, cells := 0, slots := 0, locals := 65 })
theorem nmX0_told : Nm yX0_told 2 := ⟨by decide +kernel, by decide +kernel, by decide +kernel⟩
theorem vcX0_told_0 {G : Gl} {ad : Nat → Nat} {cn : Cn} {h0 : Hp} {Q : Option Value → Tg → Prop} (g : Tg) (f : Tf) (gt : Tg) (p : Int32) (w : Int32)  (hv : (((inB p 0 (g 0 10 - 1)) = false → Q (some (.int (-2))) g) ∧ ((inB p 0 (g 0 10 - 1)) = true → (vp_in p 5) ∧ (p.toNatClampNeg < cP cn) ∧ (LPl cn g f gt p.toNatClampNeg) ∧ Q (some (.int (toldR gt p.toNatClampNeg w))) g))) :
    AWC G ad cn h0 MX0_told Q g 0 [(0, .ref (ad 0)), (1, .int p), (2, .int w)] [] := by
  refine AWC_aload_n (pc := 0) dX0_told_0 rfl 0 rfl ?_
  refine AWC_iload_n (pc := 1) dX0_told_1 rfl 1 rfl ?_
  refine AWC_callV (M' := MX0_isPlan) (pc := 2) (a := 0) [.int p] [] clX0 rfl rfl nmX0_isPlan ⟨rfl, rfl⟩ (ML.o q745) q747 qs15 q73 q748 dX0_told_2 rfl rfl (Nat.le_of_ble_eq_true rfl) ⟨Nat.le_of_ble_eq_true rfl, Nat.le_of_ble_eq_true rfl⟩ (mcX0_isPlan cn g  p ) ?_
  rintro _ _ ⟨rfl, rfl⟩
  refine AWC_ifb_eq (pc := 5) (tgt := 21) dX0_told_5 (by decide) (fun c1 => ?_) (fun c1 => ?_)
  · have hv := hv.1 c1
    refine AWC_bipush (pc := 21) (v := (-2)) dX0_told_21 (by decide) ?_
    exact AWC_iret (pc := 23) rfl rfl dX0_told_23 hv
  · have hv := hv.2 c1
    refine AWC_aload_n (pc := 8) dX0_told_8 rfl 0 rfl ?_
    refine AWC_getR (pc := 9) (0) 9 (9) rfl rfl clX0 (by decide) rfl (FL.o q270) dX0_told_9 ?_
    refine AWC_iload_n (pc := 12) dX0_told_12 rfl 1 rfl ?_
    have h_2 := hv.1
    have hv := hv.2
    have h_3 := hv.1
    have hv := hv.2
    refine AWC_aald (pc := 13) (b := 9) (b' := 60 + 8 * p.toNatClampNeg) (t := 5) (n := 5) rfl (rB_plan h_3) (by decide) (by decide) dX0_told_13 h_2 ?_
    refine AWC_iload_n (pc := 14) dX0_told_14 rfl 2 rfl ?_
    have h_4 := hv.1
    have hv := hv.2
    refine AWC_callV (M' := MX11_told) (pc := 15) (a := 60 + 8 * p.toNatClampNeg) [.int w] [] clX11 (kB_plan h_3) rfl nmX11_told ⟨rfl, rfl⟩ (ML.o q757) q758 q759 q86 q760 dX0_told_15 rfl rfl (Nat.le_of_ble_eq_true rfl) ⟨Nat.le_of_ble_eq_true rfl, Nat.le_of_ble_eq_true rfl⟩ (mcX11_told cn g f gt p.toNatClampNeg w h_3 h_4) ?_
    rintro _ _ ⟨rfl, rfl⟩
    refine AWC_goto (pc := 18) (tgt := 23) dX0_told_18 (by decide) ?_
    exact AWC_iret (pc := 23) rfl rfl dX0_told_23 hv
theorem mcX0_told {G : Gl} {ad : Nat → Nat} (cn : Cn) (g : Tg) (f : Tf) (gt : Tg) (p : Int32) (w : Int32) (h1 : Rel cn g f gt) (h2 : MI f gt) : MCC G ad cn MX0_told [.ref (ad 0), .int p, .int w] g (fun v0 g1 => v0 = some (.int (rTold f gt p w)) ∧ g = g1) := by
  refine MCC.of ⟨rfl, rfl⟩ (by decide) (Nat.le_of_ble_eq_true rfl) rfl (fun h0 => vcX0_told_0 g f gt p w  ?_)
  have a8 := h1.1.2.2.2.2.2.2.2.1
  rw [a8]
  refine ⟨fun c => ?_, fun c => ?_⟩
  all_goals first
    | exact ⟨by simp [rTold, c], rfl⟩
    | (obtain ⟨a, rfl, ha5, haP, hin, hcl⟩ := h2.cP h1 c
       rw [hcl]
       refine ⟨hin, haP, LPl.of h1 h2 haP, ?_, rfl⟩
       simp only [rTold, c, if_true, toldR])
