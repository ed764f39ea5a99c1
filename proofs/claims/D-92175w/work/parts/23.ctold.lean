/-! ===== the component: told (printed by h23.py) ===== -/
def lkT (g : Tg) (L : Nat) (w : Int32) : Int32 := if w = 0 then g L 0 else if w = 1 then g L 1 else if w = 2 then g L 2 else if g L 3 = 0 then 0 else 1
def ltT (g : Tg) (L : Nat) (w : Int32) : Int32 := if w = 4 then g L 4 else if w = 5 then g L 5 else lkT g L w
def toldC (g : Tg) (L J : Nat) (w : Int32) : Int32 := if J = 0 then lkT g L w else ltT g L w
abbrev MX13_told : Mi := (yX13_told, cX13_told, 2, some .int, { frames := 0, cells := 0, slots := 0, locals := 0 })
theorem nmX13_told : Nm yX13_told 1 := ⟨by decide +kernel, by decide +kernel, by decide +kernel⟩
theorem vcX13_told_0 {G : Gl} {ad : Nat → Nat} {cn : Cn} {h0 : Hp} {Q : Option Value → Tg → Prop} (g : Tg)  (L : Nat) (w : Int32) (hL : isLk cn L) (hv : ((w = 0 → Q (some (.int (g (L) 0))) g) ∧ (w = 1 → Q (some (.int (g (L) 1))) g) ∧ (w = 2 → Q (some (.int (g (L) 2))) g) ∧ (¬ w = 0 → ¬ w = 1 → ¬ w = 2 → (((g (L) 3) = 0 → Q (some (.int 0)) g) ∧ (¬ (g (L) 3) = 0 → Q (some (.int 1)) g))))) :
    AWC G ad cn h0 MX13_told Q g 0 [(0, .ref (ad (L))), (1, .int w)] [] := by
  refine AWC_iload_n (pc := 0) dX13_told_0 rfl 1 rfl ?_
  by_cases c1_0 : w = 0
  · have hv1 := hv.1 c1_0
    refine AWC_tableIn (pc := 1) (tgt := 28) dX13_told_1 (by rw [c1_0]; decide) (by rw [c1_0]; decide) (off := 27) (by rw [c1_0]; decide) (by decide) ?_
    refine AWC_aload_n (pc := 28) dX13_told_28 rfl 0 rfl ?_
    refine AWC_getLk (pc := 29) (L) 0 hL (by decide) rfl rfl (FL.o q690) (FL.o q690) dX13_told_29 ?_
    exact AWC_iret (pc := 32) rfl rfl dX13_told_32 hv1
  by_cases c1_1 : w = 1
  · have hv1 := hv.2.1 c1_1
    refine AWC_tableIn (pc := 1) (tgt := 33) dX13_told_1 (by rw [c1_1]; decide) (by rw [c1_1]; decide) (off := 32) (by rw [c1_1]; decide) (by decide) ?_
    refine AWC_aload_n (pc := 33) dX13_told_33 rfl 0 rfl ?_
    refine AWC_getLk (pc := 34) (L) 1 hL (by decide) rfl rfl (FL.o q695) (FL.o q695) dX13_told_34 ?_
    exact AWC_iret (pc := 37) rfl rfl dX13_told_37 hv1
  by_cases c1_2 : w = 2
  · have hv1 := hv.2.2.1 c1_2
    refine AWC_tableIn (pc := 1) (tgt := 38) dX13_told_1 (by rw [c1_2]; decide) (by rw [c1_2]; decide) (off := 37) (by rw [c1_2]; decide) (by decide) ?_
    refine AWC_aload_n (pc := 38) dX13_told_38 rfl 0 rfl ?_
    refine AWC_getLk (pc := 39) (L) 2 hL (by decide) rfl rfl (FL.o q697) (FL.o q697) dX13_told_39 ?_
    exact AWC_iret (pc := 42) rfl rfl dX13_told_42 hv1
  have hv1 := hv.2.2.2 c1_0 c1_1 c1_2
  have hdf : AWC G ad cn h0 MX13_told Q g 43 [(0, .ref (ad (L))), (1, .int w)] [] := by
    refine AWC_aload_n (pc := 43) dX13_told_43 rfl 0 rfl ?_
    refine AWC_getLk (pc := 44) (L) 3 hL (by decide) rfl rfl (FL.o q699) (FL.o q699) dX13_told_44 ?_
    refine AWC_if_eq (pc := 47) (tgt := 54) dX13_told_47 (by decide) (fun c2 => ?_) (fun c2 => ?_)
    · have hv1 := hv1.1 c2
      refine AWC_iconst (pc := 54) (v := 0) dX13_told_54 (by decide) ?_
      exact AWC_iret (pc := 55) rfl rfl dX13_told_55 hv1
    · have hv1 := hv1.2 c2
      refine AWC_iconst (pc := 50) (v := 1) dX13_told_50 (by decide) ?_
      refine AWC_goto (pc := 51) (tgt := 55) dX13_told_51 (by decide) ?_
      exact AWC_iret (pc := 55) rfl rfl dX13_told_55 hv1
  have c1_0 := lv_neT c1_0 (a := 0) (by decide)
  have c1_1 := lv_neT c1_1 (a := 1) (by decide)
  have c1_2 := lv_neT c1_2 (a := 2) (by decide)
  exact AWC_tableOut (pc := 1) (tgt := 43) dX13_told_1 (by omega) (by decide) hdf
theorem mcX13_told {G : Gl} {ad : Nat → Nat} (cn : Cn) (g : Tg)  (L : Nat) (w : Int32) (hL : isLk cn L) : MCC G ad cn MX13_told [.ref (ad (L)), .int w] g (fun v0 g1 => v0 = some (.int (lkT g L w)) ∧ g = g1) := by
  refine MCC.of ⟨rfl, rfl⟩ (by decide) (Nat.le_of_ble_eq_true rfl) rfl (fun h0 => vcX13_told_0 g  L w hL ?_)
  refine ⟨fun c => by subst c; exact ⟨rfl, rfl⟩, fun c => by subst c; exact ⟨rfl, rfl⟩, fun c => by subst c; exact ⟨rfl, rfl⟩, fun c0 c1 c2 => ⟨fun c => ?_, fun c => ?_⟩⟩
  · simp [lkT, c0, c1, c2, c]
  · simp [lkT, c0, c1, c2, c]
abbrev MX14_told : Mi := (yX14_told, cX14_told, 2, some .int, { frames := 1, cells := 0, slots := 0, locals := 21 })
theorem nmX14_told : Nm yX14_told 1 := ⟨by decide +kernel, by decide +kernel, by decide +kernel⟩
theorem vcX14_told_0 {G : Gl} {ad : Nat → Nat} {cn : Cn} {h0 : Hp} {Q : Option Value → Tg → Prop} (g : Tg)  (L : Nat) (w : Int32) (hL : kB cn L = some (.inl 14)) (hv : ((¬ w = 4 → ((¬ w = 5 → Q (some (.int (lkT g L w))) g) ∧ (w = 5 → Q (some (.int (g L 5))) g))) ∧ (w = 4 → Q (some (.int (g L 4))) g))) :
    AWC G ad cn h0 MX14_told Q g 0 [(0, .ref (ad (L))), (1, .int w)] [] := by
  refine AWC_iload_n (pc := 0) dX14_told_0 rfl 1 rfl ?_
  refine AWC_iconst (pc := 1) (v := 4) dX14_told_1 (by decide) ?_
  refine AWC_icmp_ne (pc := 2) (tgt := 12) dX14_told_2 (by decide) (fun c1 => ?_) (fun c1 => ?_)
  · have hv := hv.1 c1
    refine AWC_iload_n (pc := 12) dX14_told_12 rfl 1 rfl ?_
    refine AWC_iconst (pc := 13) (v := 5) dX14_told_13 (by decide) ?_
    refine AWC_icmp_ne (pc := 14) (tgt := 24) dX14_told_14 (by decide) (fun c2 => ?_) (fun c2 => ?_)
    · have hv := hv.1 c2
      refine AWC_aload_n (pc := 24) dX14_told_24 rfl 0 rfl ?_
      refine AWC_iload_n (pc := 25) dX14_told_25 rfl 1 rfl ?_
      refine AWC_callSU (M' := MX13_told) (n := 1) (pc := 26) (a := L) [.int w] [] clX14 hL ⟨by decide +kernel, by decide +kernel⟩ ⟨rfl, rfl⟩ q770 q766 q732 q764 q94 q771 dX14_told_26 rfl rfl (Nat.le_of_ble_eq_true rfl) ⟨Nat.le_of_ble_eq_true rfl, Nat.le_of_ble_eq_true rfl⟩ (mcX13_told cn g  L w (Or.inr hL)) ?_
      rintro _ _ ⟨rfl, rfl⟩
      exact AWC_iret (pc := 29) rfl rfl dX14_told_29 hv
    · have hv := hv.2 c2
      refine AWC_aload_n (pc := 17) dX14_told_17 rfl 0 rfl ?_
      refine AWC_getI (pc := 18) (L) 5 hL clX14 (by decide) rfl (FL.o q721) dX14_told_18 ?_
      refine AWC_goto (pc := 21) (tgt := 29) dX14_told_21 (by decide) ?_
      exact AWC_iret (pc := 29) rfl rfl dX14_told_29 hv
  · have hv := hv.2 c1
    refine AWC_aload_n (pc := 5) dX14_told_5 rfl 0 rfl ?_
    refine AWC_getI (pc := 6) (L) 4 hL clX14 (by decide) rfl (FL.o q718) dX14_told_6 ?_
    refine AWC_goto (pc := 9) (tgt := 29) dX14_told_9 (by decide) ?_
    exact AWC_iret (pc := 29) rfl rfl dX14_told_29 hv
theorem mcX14_told {G : Gl} {ad : Nat → Nat} (cn : Cn) (g : Tg)  (L : Nat) (w : Int32) (hL : kB cn L = some (.inl 14)) : MCC G ad cn MX14_told [.ref (ad (L)), .int w] g (fun v0 g1 => v0 = some (.int (ltT g L w)) ∧ g = g1) := by
  refine MCC.of ⟨rfl, rfl⟩ (by decide) (Nat.le_of_ble_eq_true rfl) rfl (fun h0 => vcX14_told_0 g  L w hL ?_)
  refine ⟨fun c => ⟨fun c2 => ?_, fun c2 => ?_⟩, fun c => ?_⟩
  all_goals simp_all [ltT]
theorem AWC_told {G : Gl} {ad : Nat → Nat} {cn : Cn} {h0 : Hp} {M : Mi} {Q : Option Value → Tg → Prop} {g : Tg} {pc : Nat} {lv : List (Nat × Value)} {st : List Value} {index : Nat} (P J : Nat) (w : Int32) (rest : List Value) (hP : P < cP cn) (hJ : J < cS cn P) (h3 : J < 3) (hl1 : Cond.methodLink (mY M).cls index yX13_told ∈ lw_all) (hd : decode (mC M) pc = .ok (.invokevirtual index, 3)) (hst : st = .int w :: .ref (ad (63 + 8 * P + J)) :: rest) (hr : (rest.map fun v => v.category).sum ≤ 8) (hR1 : Rm M MX13_told) (hR2 : Rm M MX14_told)
    (kk : AWC G ad cn h0 M Q g (pc + 3) lv (.int (toldC g (63 + 8 * P + J) J w) :: rest)) : AWC G ad cn h0 M Q g pc lv st := by
  by_cases h0J : J = 0
  · have hB : kB cn (63 + 8 * P + J) = some (.inl 13) := by have := kB_look hP hJ h3; rwa [if_pos h0J] at this
    rw [toldC, if_pos h0J] at kk
    refine AWC_callV (M' := MX13_told) (a := 63 + 8 * P + J) [.int w] rest clX13 hB rfl nmX13_told ⟨rfl, rfl⟩ (ML.o hl1) q764 q765 q94 q771 hd hst rfl hr hR1 (mcX13_told cn g (63 + 8 * P + J) w (Or.inl hB)) ?_
    rintro _ _ ⟨rfl, rfl⟩
    exact kk
  · have hB : kB cn (63 + 8 * P + J) = some (.inl 14) := by have := kB_look hP hJ h3; rwa [if_neg h0J] at this
    rw [toldC, if_neg h0J] at kk
    refine AWC_callU (M' := MX14_told) (n := 1) (a := 63 + 8 * P + J) (owner := "SharedNights$Look") (x := yX13_told) [.int w] rest clX14 hB (by decide +kernel) ⟨rfl, rfl⟩ hl1 q766 (Or.inr ⟨q764, _, _, _, q771⟩) q767 q768 q95 q769 hd hst rfl hr hR2 (mcX14_told cn g (63 + 8 * P + J) w hB) ?_
    rintro _ _ ⟨rfl, rfl⟩
    exact kk
abbrev MX11_told : Mi := (yX11_told, cX11_told, 4, some .int, { frames := 2, cells := 0, slots := 0, locals := 42 })
theorem nmX11_told : Nm yX11_told 1 := ⟨by decide +kernel, by decide +kernel, by decide +kernel⟩
theorem vcX11_told_0 {G : Gl} {ad : Nat → Nat} {cn : Cn} {h0 : Hp} {Q : Option Value → Tg → Prop} (g : Tg)  (P : Nat) (w : Int32) (hP1 : P < cP cn) (hv : ((w = 0 → Q (some (.int (g (60 + 8 * P) 0))) g) ∧ (w = 1 → Q (some (.int (g (60 + 8 * P) 1))) g) ∧ (w = 2 → Q (some (.int (g (60 + 8 * P) 2))) g) ∧ (w = 3 → Q (some (.int (g (60 + 8 * P) 3))) g) ∧ (w = 4 → Q (some (.int (g (60 + 8 * P) 5))) g) ∧ (¬ w = 0 → ¬ w = 1 → ¬ w = 2 → ¬ w = 3 → ¬ w = 4 → (((inB ((w / 10) - 1) 0 2) = false → Q (some (.int (-3))) g) ∧ ((inB ((w / 10) - 1) 0 2) = true → ((¬ ((w / 10) - 1) = 0 → (((w - w / 10 * 10) ≤ 5 → (((g (60 + 8 * P) 5) ≤ ((w / 10) - 1) → Q (some (.int (-1))) g) ∧ (¬ (g (60 + 8 * P) 5) ≤ ((w / 10) - 1) → (vp_in ((w / 10) - 1) 3) ∧ (((w / 10) - 1).toNatClampNeg < cS cn P) ∧ Q (some (.int (toldC g (63 + 8 * P + (((w / 10) - 1).toNatClampNeg)) (((w / 10) - 1).toNatClampNeg) (w - w / 10 * 10)))) g))) ∧ (¬ (w - w / 10 * 10) ≤ 5 → Q (some (.int (-3))) g))) ∧ (((w / 10) - 1) = 0 → (((w - w / 10 * 10) ≤ 3 → (((g (60 + 8 * P) 5) ≤ ((w / 10) - 1) → Q (some (.int (-1))) g) ∧ (¬ (g (60 + 8 * P) 5) ≤ ((w / 10) - 1) → (vp_in ((w / 10) - 1) 3) ∧ (((w / 10) - 1).toNatClampNeg < cS cn P) ∧ Q (some (.int (toldC g (63 + 8 * P + (((w / 10) - 1).toNatClampNeg)) (((w / 10) - 1).toNatClampNeg) (w - w / 10 * 10)))) g))) ∧ (¬ (w - w / 10 * 10) ≤ 3 → Q (some (.int (-3))) g))))))))) :
    AWC G ad cn h0 MX11_told Q g 0 [(0, .ref (ad (60 + 8 * P))), (1, .int w)] [] := by
  refine AWC_iload_n (pc := 0) dX11_told_0 rfl 1 rfl ?_
  by_cases c1_0 : w = 0
  · have hv1 := hv.1 c1_0
    refine AWC_tableIn (pc := 1) (tgt := 36) dX11_told_1 (by rw [c1_0]; decide) (by rw [c1_0]; decide) (off := 35) (by rw [c1_0]; decide) (by decide) ?_
    refine AWC_aload_n (pc := 36) dX11_told_36 rfl 0 rfl ?_
    refine AWC_getI (pc := 37) (60 + 8 * P) 0 (kB_plan hP1) clX11 (by decide) rfl (FL.o q466) dX11_told_37 ?_
    exact AWC_iret (pc := 40) rfl rfl dX11_told_40 hv1
  by_cases c1_1 : w = 1
  · have hv1 := hv.2.1 c1_1
    refine AWC_tableIn (pc := 1) (tgt := 41) dX11_told_1 (by rw [c1_1]; decide) (by rw [c1_1]; decide) (off := 40) (by rw [c1_1]; decide) (by decide) ?_
    refine AWC_aload_n (pc := 41) dX11_told_41 rfl 0 rfl ?_
    refine AWC_getI (pc := 42) (60 + 8 * P) 1 (kB_plan hP1) clX11 (by decide) rfl (FL.o q471) dX11_told_42 ?_
    exact AWC_iret (pc := 45) rfl rfl dX11_told_45 hv1
  by_cases c1_2 : w = 2
  · have hv1 := hv.2.2.1 c1_2
    refine AWC_tableIn (pc := 1) (tgt := 46) dX11_told_1 (by rw [c1_2]; decide) (by rw [c1_2]; decide) (off := 45) (by rw [c1_2]; decide) (by decide) ?_
    refine AWC_aload_n (pc := 46) dX11_told_46 rfl 0 rfl ?_
    refine AWC_getI (pc := 47) (60 + 8 * P) 2 (kB_plan hP1) clX11 (by decide) rfl (FL.o q474) dX11_told_47 ?_
    exact AWC_iret (pc := 50) rfl rfl dX11_told_50 hv1
  by_cases c1_3 : w = 3
  · have hv1 := hv.2.2.2.1 c1_3
    refine AWC_tableIn (pc := 1) (tgt := 51) dX11_told_1 (by rw [c1_3]; decide) (by rw [c1_3]; decide) (off := 50) (by rw [c1_3]; decide) (by decide) ?_
    refine AWC_aload_n (pc := 51) dX11_told_51 rfl 0 rfl ?_
    refine AWC_getI (pc := 52) (60 + 8 * P) 3 (kB_plan hP1) clX11 (by decide) rfl (FL.o q478) dX11_told_52 ?_
    exact AWC_iret (pc := 55) rfl rfl dX11_told_55 hv1
  by_cases c1_4 : w = 4
  · have hv1 := hv.2.2.2.2.1 c1_4
    refine AWC_tableIn (pc := 1) (tgt := 56) dX11_told_1 (by rw [c1_4]; decide) (by rw [c1_4]; decide) (off := 55) (by rw [c1_4]; decide) (by decide) ?_
    refine AWC_aload_n (pc := 56) dX11_told_56 rfl 0 rfl ?_
    refine AWC_getI (pc := 57) (60 + 8 * P) 5 (kB_plan hP1) clX11 (by decide) rfl (FL.o q485) dX11_told_57 ?_
    exact AWC_iret (pc := 60) rfl rfl dX11_told_60 hv1
  have hv1 := hv.2.2.2.2.2 c1_0 c1_1 c1_2 c1_3 c1_4
  have hdf : AWC G ad cn h0 MX11_told Q g 61 [(0, .ref (ad (60 + 8 * P))), (1, .int w)] [] := by
    refine AWC_iload_n (pc := 61) dX11_told_61 rfl 1 rfl ?_
    refine AWC_bipush (pc := 62) (v := 10) dX11_told_62 (by decide) ?_
    refine AWC_idiv (pc := 64) dX11_told_64 (by decide) ?_
    refine AWC_iconst (pc := 65) (v := 1) dX11_told_65 (by decide) ?_
    refine AWC_isub (pc := 66) dX11_told_66 ?_
    refine AWC_istore_n (pc := 67) (lv' := [(2, .int ((w / 10) - 1)), (0, .ref (ad (60 + 8 * P))), (1, .int w)]) dX11_told_67 rfl (by decide) rfl ?_
    refine AWC_iload_n (pc := 68) dX11_told_68 rfl 2 rfl ?_
    refine AWC_bipush (pc := 69) (v := 10) dX11_told_69 (by decide) ?_
    refine AWC_irem (pc := 71) dX11_told_71 (by decide) ?_
    refine AWC_istore_n (pc := 72) (lv' := [(3, .int (w - w / 10 * 10)), (2, .int ((w / 10) - 1)), (0, .ref (ad (60 + 8 * P))), (1, .int w)]) dX11_told_72 rfl (by decide) rfl ?_
    refine AWC_iload_n (pc := 73) dX11_told_73 rfl 1 rfl ?_
    refine AWC_i2l (pc := 74) dX11_told_74 ?_
    refine AWC_lconst (pc := 75) (v := 0) dX11_told_75 (by decide) ?_
    refine AWC_ldc2 (pc := 76) q761 dX11_told_76 ?_
    refine AWC_callS (M' := MX0_isIn) (pc := 79) [.long (Int32.toInt64 ((w / 10) - 1)), .long 0, .long 2] [] nmX0_isIn ⟨rfl, rfl⟩ (ML.n q762) q355 q73 q356 dX11_told_79 rfl rfl (Nat.le_of_ble_eq_true rfl) ⟨Nat.le_of_ble_eq_true rfl, Nat.le_of_ble_eq_true rfl⟩ (mcX0_isInI cn g ((w / 10) - 1) 0 2 (Int32.toInt64 ((w / 10) - 1)) 0 2 rfl rfl rfl) ?_
    rintro _ _ ⟨rfl, rfl⟩
    refine AWC_ifb_eq (pc := 82) (tgt := 98) dX11_told_82 (by decide) (fun c2 => ?_) (fun c2 => ?_)
    · have hv1 := hv1.1 c2
      refine AWC_bipush (pc := 98) (v := (-3)) dX11_told_98 (by decide) ?_
      exact AWC_iret (pc := 100) rfl rfl dX11_told_100 hv1
    · have hv1 := hv1.2 c2
      refine AWC_iload_n (pc := 85) dX11_told_85 rfl 0 rfl ?_
      refine AWC_iload_n (pc := 86) dX11_told_86 rfl 1 rfl ?_
      refine AWC_if_ne (pc := 87) (tgt := 94) dX11_told_87 (by decide) (fun c3 => ?_) (fun c3 => ?_)
      · have hv1 := hv1.1 c3
        refine AWC_iconst (pc := 94) (v := 5) dX11_told_94 (by decide) ?_
        refine AWC_icmp_le (pc := 95) (tgt := 101) dX11_told_95 (by decide) (fun c4 => ?_) (fun c4 => ?_)
        · have hv1 := hv1.1 c4
          refine AWC_iload_n (pc := 101) dX11_told_101 rfl 1 rfl ?_
          refine AWC_aload_n (pc := 102) dX11_told_102 rfl 2 rfl ?_
          refine AWC_getI (pc := 103) (60 + 8 * P) 5 (kB_plan hP1) clX11 (by decide) rfl (FL.o q485) dX11_told_103 ?_
          refine AWC_icmp_ge (pc := 106) (tgt := 122) dX11_told_106 (by decide) (fun c5 => ?_) (fun c5 => ?_)
          · have hv1 := hv1.1 c5
            refine AWC_iconst (pc := 122) (v := (-1)) dX11_told_122 (by decide) ?_
            exact AWC_iret (pc := 123) rfl rfl dX11_told_123 hv1
          · have hv1 := hv1.2 c5
            refine AWC_aload_n (pc := 109) dX11_told_109 rfl 2 rfl ?_
            refine AWC_getR (pc := 110) (60 + 8 * P) 4 (61 + 8 * P) (kB_plan hP1) (rB_pf 4) clX11 (by decide) rfl (FL.o q482) dX11_told_110 ?_
            refine AWC_iload_n (pc := 113) dX11_told_113 rfl 1 rfl ?_
            have h_6 := hv1.1
            have hv1 := hv1.2
            have h_7 := hv1.1
            have hv1 := hv1.2
            refine AWC_aald (pc := 114) (b := 61 + 8 * P) (b' := 63 + 8 * P + (((w / 10) - 1).toNatClampNeg)) (t := 7) (n := 3) (kB_steps hP1) (rB_look h_7) (by decide) (by decide) dX11_told_114 h_6 ?_
            refine AWC_iload_n (pc := 115) dX11_told_115 rfl 0 rfl ?_
            refine AWC_told (pc := 116) P (((w / 10) - 1).toNatClampNeg) (w - w / 10 * 10) [] hP1 h_7 (vp_lt h_6) q763 dX11_told_116 rfl (Nat.le_of_ble_eq_true rfl) ⟨Nat.le_of_ble_eq_true rfl, Nat.le_of_ble_eq_true rfl⟩ ⟨Nat.le_of_ble_eq_true rfl, Nat.le_of_ble_eq_true rfl⟩ ?_
            refine AWC_goto (pc := 119) (tgt := 123) dX11_told_119 (by decide) ?_
            exact AWC_iret (pc := 123) rfl rfl dX11_told_123 hv1
        · have hv1 := hv1.2 c4
          refine AWC_bipush (pc := 98) (v := (-3)) dX11_told_98 (by decide) ?_
          exact AWC_iret (pc := 100) rfl rfl dX11_told_100 hv1
      · have hv1 := hv1.2 c3
        refine AWC_iconst (pc := 90) (v := 3) dX11_told_90 (by decide) ?_
        refine AWC_goto (pc := 91) (tgt := 95) dX11_told_91 (by decide) ?_
        refine AWC_icmp_le (pc := 95) (tgt := 101) dX11_told_95 (by decide) (fun c8 => ?_) (fun c8 => ?_)
        · have hv1 := hv1.1 c8
          refine AWC_iload_n (pc := 101) dX11_told_101 rfl 1 rfl ?_
          refine AWC_aload_n (pc := 102) dX11_told_102 rfl 2 rfl ?_
          refine AWC_getI (pc := 103) (60 + 8 * P) 5 (kB_plan hP1) clX11 (by decide) rfl (FL.o q485) dX11_told_103 ?_
          refine AWC_icmp_ge (pc := 106) (tgt := 122) dX11_told_106 (by decide) (fun c9 => ?_) (fun c9 => ?_)
          · have hv1 := hv1.1 c9
            refine AWC_iconst (pc := 122) (v := (-1)) dX11_told_122 (by decide) ?_
            exact AWC_iret (pc := 123) rfl rfl dX11_told_123 hv1
          · have hv1 := hv1.2 c9
            refine AWC_aload_n (pc := 109) dX11_told_109 rfl 2 rfl ?_
            refine AWC_getR (pc := 110) (60 + 8 * P) 4 (61 + 8 * P) (kB_plan hP1) (rB_pf 4) clX11 (by decide) rfl (FL.o q482) dX11_told_110 ?_
            refine AWC_iload_n (pc := 113) dX11_told_113 rfl 1 rfl ?_
            have h_10 := hv1.1
            have hv1 := hv1.2
            have h_11 := hv1.1
            have hv1 := hv1.2
            refine AWC_aald (pc := 114) (b := 61 + 8 * P) (b' := 63 + 8 * P + (((w / 10) - 1).toNatClampNeg)) (t := 7) (n := 3) (kB_steps hP1) (rB_look h_11) (by decide) (by decide) dX11_told_114 h_10 ?_
            refine AWC_iload_n (pc := 115) dX11_told_115 rfl 0 rfl ?_
            refine AWC_told (pc := 116) P (((w / 10) - 1).toNatClampNeg) (w - w / 10 * 10) [] hP1 h_11 (vp_lt h_10) q763 dX11_told_116 rfl (Nat.le_of_ble_eq_true rfl) ⟨Nat.le_of_ble_eq_true rfl, Nat.le_of_ble_eq_true rfl⟩ ⟨Nat.le_of_ble_eq_true rfl, Nat.le_of_ble_eq_true rfl⟩ ?_
            refine AWC_goto (pc := 119) (tgt := 123) dX11_told_119 (by decide) ?_
            exact AWC_iret (pc := 123) rfl rfl dX11_told_123 hv1
        · have hv1 := hv1.2 c8
          refine AWC_bipush (pc := 98) (v := (-3)) dX11_told_98 (by decide) ?_
          exact AWC_iret (pc := 100) rfl rfl dX11_told_100 hv1
  have c1_0 := lv_neT c1_0 (a := 0) (by decide)
  have c1_1 := lv_neT c1_1 (a := 1) (by decide)
  have c1_2 := lv_neT c1_2 (a := 2) (by decide)
  have c1_3 := lv_neT c1_3 (a := 3) (by decide)
  have c1_4 := lv_neT c1_4 (a := 4) (by decide)
  exact AWC_tableOut (pc := 1) (tgt := 61) dX11_told_1 (by omega) (by decide) hdf
