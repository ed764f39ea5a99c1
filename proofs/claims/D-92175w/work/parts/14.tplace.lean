/-! ===== the reference: placements (printed by h14.py) ===== -/
theorem nx_and (a b : Nat) : nI a &&& nI b = nI (a &&& b) := by
  apply Int32.toBitVec_inj.1
  show BitVec.ofNat 32 a &&& BitVec.ofNat 32 b = BitVec.ofNat 32 (a &&& b)
  apply BitVec.eq_of_getLsbD_eq
  intro i hi
  simp [hi]
theorem nx_or (a b : Nat) : nI a ||| nI b = nI (a ||| b) := by
  apply Int32.toBitVec_inj.1
  show BitVec.ofNat 32 a ||| BitVec.ofNat 32 b = BitVec.ofNat 32 (a ||| b)
  apply BitVec.eq_of_getLsbD_eq
  intro i hi
  simp [hi]
/-- step j of plan p: its k-th number -/
def stp (g : Tg) (p j k : Nat) : Int32 := g 22 (23 * p + 5 + 6 * j + k)
def stN (g : Tg) (p j k : Nat) : Nat := (stp g p j k).toNatClampNeg
def nN (f : Tf) : Nat := (f 0).toNatClampNeg
def wOf (g : Tg) (p : Int32) : Int32 := g 22 (23 * p + 3).toNatClampNeg
def sOf (g : Tg) (p : Int32) : Int32 := g 22 (23 * p + 4).toNatClampNeg
def oS (g : Tg) (p j k : Int32) : Int32 := g 22 (23 * p + 5 + 6 * j + k).toNatClampNeg
theorem wOf_n (g : Tg) (p : Nat) (h : p < 100) : wOf g (nI p) = g 22 (23 * p + 3) := by
  unfold wOf
  rw [lm 23 p, ra _ 3, nc (23 * p + 3)]
theorem sOf_n (g : Tg) (p : Nat) (h : p < 100) : sOf g (nI p) = g 22 (23 * p + 4) := by
  unfold sOf
  rw [lm 23 p, ra _ 4, nc (23 * p + 4)]
theorem oS_n (g : Tg) (p j k : Nat) {J K : Int32} (hJ : J = nI j := by rfl) (hK : K = nI k := by rfl) (h : p < 100 := by omega) (hj : j < 3 := by omega) (hk : k < 6 := by omega) : oS g (nI p) J K = stp g p j k := by
  subst hJ hK
  unfold oS stp
  rw [lm 23 p, ra _ 5, lm 6 j, nI_add, nI_add, nc (23 * p + 5 + 6 * j + k)]
/-- whether needs fit in a slot by a sky -/
def fitV (v most : Int32) (vis : Bool) (air am d : Int32) (br : Bool) : Bool := (!decide (v = 4)) && (decide (v ≤ most) && (vis && (decide (air ≤ am) && (!(decide (d = 1)) || !br))))
def fitT (f : Tf) (g : Tg) (t s k m a d : Int32) : Bool := fitV (g 9 (12 * k + s).toNatClampNeg) m (visT f g t s) (airT f g t s) a d (decide (g 5 t.toNatClampNeg = f 6) && inB s (f 7) (f 8))
abbrev MX9_worthOf : Mi := (yX9_worthOf, cX9_worthOf, 2, some .int, { frames := 0, cells := 0, slots := 0, locals := 0 })
theorem nmX9_worthOf : Nm yX9_worthOf 1 := ⟨by decide +kernel, by decide +kernel, by decide +kernel⟩
theorem vcX9_worthOf_0 {G : Gl} {o : Nat} {ad : Nat → Nat} {h0 : Hp} {Q : Option Value → Tf → Tg → Te → Prop} (f : Tf) (g : Tg) (e : Te) (p : Int32) (hv : vp_in ((23 * p) + 3) 138 ∧ Q (some (.int (g 22 ((23 * p) + 3).toNatClampNeg))) f g e) :
    AWT G o ad h0 MX9_worthOf Q f g e 0 [(0, .ref o), (1, .int p)] [] := by
  refine AWT_aload_n (pc := 0) dX9_worthOf_0 rfl 0 rfl ?_
  refine AWT_getA (pc := 1) 22 (by decide) rfl rfl (FL.o q1065) dX9_worthOf_1 ?_
  refine AWT_bipush (pc := 4) (v := 23) dX9_worthOf_4 (by decide) ?_
  refine AWT_iload_n (pc := 6) dX9_worthOf_6 rfl 1 rfl ?_
  refine AWT_imul (pc := 7) dX9_worthOf_7 ?_
  refine AWT_iconst (pc := 8) (v := 3) dX9_worthOf_8 (by decide) ?_
  refine AWT_iadd (pc := 9) dX9_worthOf_9 ?_
  refine AWT_iald (pc := 10) (k := 22) (n := 138) rfl dX9_worthOf_10 hv.1 ?_
  have hv := hv.2
  exact AWT_iret (pc := 11) rfl rfl dX9_worthOf_11 hv
theorem mcX9_worthOf {G : Gl} {o : Nat} {ad : Nat → Nat} (f : Tf) (g : Tg) (e : Te) (p : Int32) (h1 : vp_in p 5) : MCT G o ad MX9_worthOf [.ref o, .int p] f g e (fun v0 f1 g1 e1 => v0 = some (.int (wOf g p)) ∧ f = f1 ∧ g = g1 ∧ e = e1) := by
  refine MCT.of ⟨rfl, rfl⟩ (by decide) (Nat.le_of_ble_eq_true rfl) rfl (fun h0 => vcX9_worthOf_0 f g e p ?_)
  obtain ⟨j, hj, rfl⟩ := vp_in_of h1 (by decide)
  exact ⟨by rw [lm 23 j, ra _ 3]; exact vp_in_nI (by omega) (by decide), rfl, rfl, rfl, rfl⟩
abbrev MX9_stepsOf : Mi := (yX9_stepsOf, cX9_stepsOf, 2, some .int, { frames := 0, cells := 0, slots := 0, locals := 0 })
theorem nmX9_stepsOf : Nm yX9_stepsOf 1 := ⟨by decide +kernel, by decide +kernel, by decide +kernel⟩
theorem vcX9_stepsOf_0 {G : Gl} {o : Nat} {ad : Nat → Nat} {h0 : Hp} {Q : Option Value → Tf → Tg → Te → Prop} (f : Tf) (g : Tg) (e : Te) (p : Int32) (hv : vp_in ((23 * p) + 4) 138 ∧ Q (some (.int (g 22 ((23 * p) + 4).toNatClampNeg))) f g e) :
    AWT G o ad h0 MX9_stepsOf Q f g e 0 [(0, .ref o), (1, .int p)] [] := by
  refine AWT_aload_n (pc := 0) dX9_stepsOf_0 rfl 0 rfl ?_
  refine AWT_getA (pc := 1) 22 (by decide) rfl rfl (FL.o q1065) dX9_stepsOf_1 ?_
  refine AWT_bipush (pc := 4) (v := 23) dX9_stepsOf_4 (by decide) ?_
  refine AWT_iload_n (pc := 6) dX9_stepsOf_6 rfl 1 rfl ?_
  refine AWT_imul (pc := 7) dX9_stepsOf_7 ?_
  refine AWT_iconst (pc := 8) (v := 4) dX9_stepsOf_8 (by decide) ?_
  refine AWT_iadd (pc := 9) dX9_stepsOf_9 ?_
  refine AWT_iald (pc := 10) (k := 22) (n := 138) rfl dX9_stepsOf_10 hv.1 ?_
  have hv := hv.2
  exact AWT_iret (pc := 11) rfl rfl dX9_stepsOf_11 hv
theorem mcX9_stepsOf {G : Gl} {o : Nat} {ad : Nat → Nat} (f : Tf) (g : Tg) (e : Te) (p : Int32) (h1 : vp_in p 5) : MCT G o ad MX9_stepsOf [.ref o, .int p] f g e (fun v0 f1 g1 e1 => v0 = some (.int (sOf g p)) ∧ f = f1 ∧ g = g1 ∧ e = e1) := by
  refine MCT.of ⟨rfl, rfl⟩ (by decide) (Nat.le_of_ble_eq_true rfl) rfl (fun h0 => vcX9_stepsOf_0 f g e p ?_)
  obtain ⟨j, hj, rfl⟩ := vp_in_of h1 (by decide)
  exact ⟨by rw [lm 23 j, ra _ 4]; exact vp_in_nI (by omega) (by decide), rfl, rfl, rfl, rfl⟩
abbrev MX9_ofStep : Mi := (yX9_ofStep, cX9_ofStep, 4, some .int, { frames := 0, cells := 0, slots := 0, locals := 0 })
theorem nmX9_ofStep : Nm yX9_ofStep 3 := ⟨by decide +kernel, by decide +kernel, by decide +kernel⟩
theorem vcX9_ofStep_0 {G : Gl} {o : Nat} {ad : Nat → Nat} {h0 : Hp} {Q : Option Value → Tf → Tg → Te → Prop} (f : Tf) (g : Tg) (e : Te) (p : Int32) (j : Int32) (k : Int32) (hv : vp_in ((((23 * p) + 5) + (6 * j)) + k) 138 ∧ Q (some (.int (g 22 ((((23 * p) + 5) + (6 * j)) + k).toNatClampNeg))) f g e) :
    AWT G o ad h0 MX9_ofStep Q f g e 0 [(0, .ref o), (1, .int p), (2, .int j), (3, .int k)] [] := by
  refine AWT_aload_n (pc := 0) dX9_ofStep_0 rfl 0 rfl ?_
  refine AWT_getA (pc := 1) 22 (by decide) rfl rfl (FL.o q1065) dX9_ofStep_1 ?_
  refine AWT_bipush (pc := 4) (v := 23) dX9_ofStep_4 (by decide) ?_
  refine AWT_iload_n (pc := 6) dX9_ofStep_6 rfl 1 rfl ?_
  refine AWT_imul (pc := 7) dX9_ofStep_7 ?_
  refine AWT_iconst (pc := 8) (v := 5) dX9_ofStep_8 (by decide) ?_
  refine AWT_iadd (pc := 9) dX9_ofStep_9 ?_
  refine AWT_bipush (pc := 10) (v := 6) dX9_ofStep_10 (by decide) ?_
  refine AWT_iload_n (pc := 12) dX9_ofStep_12 rfl 2 rfl ?_
  refine AWT_imul (pc := 13) dX9_ofStep_13 ?_
  refine AWT_iadd (pc := 14) dX9_ofStep_14 ?_
  refine AWT_iload_n (pc := 15) dX9_ofStep_15 rfl 3 rfl ?_
  refine AWT_iadd (pc := 16) dX9_ofStep_16 ?_
  refine AWT_iald (pc := 17) (k := 22) (n := 138) rfl dX9_ofStep_17 hv.1 ?_
  have hv := hv.2
  exact AWT_iret (pc := 18) rfl rfl dX9_ofStep_18 hv
theorem mcX9_ofStep {G : Gl} {o : Nat} {ad : Nat → Nat} (f : Tf) (g : Tg) (e : Te) (p : Int32) (j : Int32) (k : Int32) (h1 : vp_in p 5) (h2 : vp_in j 3) (h3 : vp_in k 6) : MCT G o ad MX9_ofStep [.ref o, .int p, .int j, .int k] f g e (fun v0 f1 g1 e1 => v0 = some (.int (oS g p j k)) ∧ f = f1 ∧ g = g1 ∧ e = e1) := by
  refine MCT.of ⟨rfl, rfl⟩ (by decide) (Nat.le_of_ble_eq_true rfl) rfl (fun h0 => vcX9_ofStep_0 f g e p j k ?_)
  obtain ⟨a, ha, rfl⟩ := vp_in_of h1 (by decide)
  obtain ⟨b, hb, rfl⟩ := vp_in_of h2 (by decide)
  obtain ⟨c, hc, rfl⟩ := vp_in_of h3 (by decide)
  exact ⟨by rw [lm 23 a, ra _ 5, lm 6 b, nI_add, nI_add]; exact vp_in_nI (by omega) (by decide), rfl, rfl, rfl, rfl⟩
abbrev MX9_fits : Mi := (yX9_fits, cX9_fits, 8, some .boolean, { frames := 2, cells := 0, slots := 0, locals := 45 })
theorem nmX9_fits : Nm yX9_fits 6 := ⟨by decide +kernel, by decide +kernel, by decide +kernel⟩
theorem vcX9_fits_0 {G : Gl} {o : Nat} {ad : Nat → Nat} {h0 : Hp} {Q : Option Value → Tf → Tg → Te → Prop} (f : Tf) (g : Tg) (e : Te) (t : Int32) (s : Int32) (k : Int32) (m : Int32) (a : Int32) (d : Int32) (hv : vp_in ((12 * k) + s) 72 ∧ (((g 9 ((12 * k) + s).toNatClampNeg) = 4 → Q (some (.int 0)) f g e) ∧ (¬ (g 9 ((12 * k) + s).toNatClampNeg) = 4 → ((m < (g 9 ((12 * k) + s).toNatClampNeg) → Q (some (.int 0)) f g e) ∧ (¬ m < (g 9 ((12 * k) + s).toNatClampNeg) → (vp_in t 8) ∧ (((visT f g t s) = false → Q (some (.int 0)) f g e) ∧ ((visT f g t s) = true → (vp_in t 8) ∧ (((airT f g t s) ≤ a → ((¬ d = 1 → Q (some (.int 1)) f g e) ∧ (d = 1 → vp_in t 8 ∧ ((¬ (g 5 t.toNatClampNeg) = (f 6) → Q (some (.int 1)) f g e) ∧ ((g 5 t.toNatClampNeg) = (f 6) → (((inB s (f 7) (f 8)) = true → Q (some (.int 0)) f g e) ∧ ((inB s (f 7) (f 8)) = false → Q (some (.int 1)) f g e))))))) ∧ (¬ (airT f g t s) ≤ a → Q (some (.int 0)) f g e))))))))) :
    AWT G o ad h0 MX9_fits Q f g e 0 [(0, .ref o), (1, .int t), (2, .int s), (3, .int k), (4, .int m), (5, .int a), (6, .int d)] [] := by
  refine AWT_aload_n (pc := 0) dX9_fits_0 rfl 0 rfl ?_
  refine AWT_getA (pc := 1) 9 (by decide) rfl rfl (FL.o q1052) dX9_fits_1 ?_
  refine AWT_bipush (pc := 4) (v := 12) dX9_fits_4 (by decide) ?_
  refine AWT_iload_n (pc := 6) dX9_fits_6 rfl 3 rfl ?_
  refine AWT_imul (pc := 7) dX9_fits_7 ?_
  refine AWT_iload_n (pc := 8) dX9_fits_8 rfl 2 rfl ?_
  refine AWT_iadd (pc := 9) dX9_fits_9 ?_
  refine AWT_iald (pc := 10) (k := 9) (n := 72) rfl dX9_fits_10 hv.1 ?_
  have hv := hv.2
  refine AWT_istore (pc := 11) (lv' := [(7, .int (g 9 ((12 * k) + s).toNatClampNeg)), (0, .ref o), (1, .int t), (2, .int s), (3, .int k), (4, .int m), (5, .int a), (6, .int d)]) dX9_fits_11 (by decide) rfl ?_
  refine AWT_iload (pc := 13) dX9_fits_13 0 rfl ?_
  refine AWT_iconst (pc := 15) (v := 4) dX9_fits_15 (by decide) ?_
  refine AWT_icmp_eq (pc := 16) (tgt := 46) dX9_fits_16 (by decide) (fun c1 => ?_) (fun c1 => ?_)
  · have hv := hv.1 c1
    refine AWT_iconst (pc := 46) (v := 0) dX9_fits_46 (by decide) ?_
    exact AWT_iret (pc := 47) rfl (by decide) dX9_fits_47 hv
  · have hv := hv.2 c1
    refine AWT_iload (pc := 19) dX9_fits_19 0 rfl ?_
    refine AWT_iload (pc := 21) dX9_fits_21 5 rfl ?_
    refine AWT_icmp_gt (pc := 23) (tgt := 46) dX9_fits_23 (by decide) (fun c2 => ?_) (fun c2 => ?_)
    · have hv := hv.1 c2
      refine AWT_iconst (pc := 46) (v := 0) dX9_fits_46 (by decide) ?_
      exact AWT_iret (pc := 47) rfl (by decide) dX9_fits_47 hv
    · have hv := hv.2 c2
      refine AWT_aload_n (pc := 26) dX9_fits_26 rfl 1 rfl ?_
      refine AWT_iload_n (pc := 27) dX9_fits_27 rfl 2 rfl ?_
      refine AWT_iload_n (pc := 28) dX9_fits_28 rfl 3 rfl ?_
      have p3 := hv.1
      have hv := hv.2
      refine AWT_callV (M' := MX9_isVisible) (pc := 29) [.int t, .int s] [] rfl nmX9_isVisible ⟨rfl, rfl⟩ (ML.o q1199) q1201 qs40 q82 q1202 dX9_fits_29 rfl rfl (Nat.le_of_ble_eq_true rfl) ⟨Nat.le_of_ble_eq_true rfl, Nat.le_of_ble_eq_true rfl⟩ (mcX9_isVisible f g e t s p3) ?_
      rintro _ _ _ _ ⟨rfl, rfl, rfl, rfl⟩
      refine AWT_ifb_eq (pc := 32) (tgt := 46) dX9_fits_32 (by decide) (fun c4 => ?_) (fun c4 => ?_)
      · have hv := hv.1 c4
        refine AWT_iconst (pc := 46) (v := 0) dX9_fits_46 (by decide) ?_
        exact AWT_iret (pc := 47) rfl (by decide) dX9_fits_47 hv
      · have hv := hv.2 c4
        refine AWT_aload_n (pc := 35) dX9_fits_35 rfl 1 rfl ?_
        refine AWT_iload_n (pc := 36) dX9_fits_36 rfl 2 rfl ?_
        refine AWT_iload_n (pc := 37) dX9_fits_37 rfl 3 rfl ?_
        have p5 := hv.1
        have hv := hv.2
        refine AWT_callV (M' := MX9_airOf) (pc := 38) [.int t, .int s] [] rfl nmX9_airOf ⟨rfl, rfl⟩ (ML.o q1203) q1205 qs41 q82 q1206 dX9_fits_38 rfl rfl (Nat.le_of_ble_eq_true rfl) ⟨Nat.le_of_ble_eq_true rfl, Nat.le_of_ble_eq_true rfl⟩ (mcX9_airOf f g e t s p5) ?_
        rintro _ _ _ _ ⟨rfl, rfl, rfl, rfl⟩
        refine AWT_iload (pc := 41) dX9_fits_41 6 rfl ?_
        refine AWT_icmp_le (pc := 43) (tgt := 48) dX9_fits_43 (by decide) (fun c6 => ?_) (fun c6 => ?_)
        · have hv := hv.1 c6
          refine AWT_iload (pc := 48) dX9_fits_48 7 rfl ?_
          refine AWT_iconst (pc := 50) (v := 1) dX9_fits_50 (by decide) ?_
          refine AWT_icmp_ne (pc := 51) (tgt := 82) dX9_fits_51 (by decide) (fun c7 => ?_) (fun c7 => ?_)
          · have hv := hv.1 c7
            refine AWT_iconst (pc := 82) (v := 1) dX9_fits_82 (by decide) ?_
            refine AWT_goto (pc := 83) (tgt := 87) dX9_fits_83 (by decide) ?_
            exact AWT_iret (pc := 87) rfl (by decide) dX9_fits_87 hv
          · have hv := hv.2 c7
            refine AWT_aload_n (pc := 54) dX9_fits_54 rfl 1 rfl ?_
            refine AWT_getA (pc := 55) 5 (by decide) rfl rfl (FL.o q1048) dX9_fits_55 ?_
            refine AWT_iload_n (pc := 58) dX9_fits_58 rfl 2 rfl ?_
            refine AWT_iald (pc := 59) (k := 5) (n := 8) rfl dX9_fits_59 hv.1 ?_
            have hv := hv.2
            refine AWT_aload_n (pc := 60) dX9_fits_60 rfl 1 rfl ?_
            refine AWT_getI (pc := 61) 6 (by decide) rfl (FL.o q1049) dX9_fits_61 ?_
            refine AWT_icmp_ne (pc := 64) (tgt := 82) dX9_fits_64 (by decide) (fun c8 => ?_) (fun c8 => ?_)
            · have hv := hv.1 c8
              refine AWT_iconst (pc := 82) (v := 1) dX9_fits_82 (by decide) ?_
              refine AWT_goto (pc := 83) (tgt := 87) dX9_fits_83 (by decide) ?_
              exact AWT_iret (pc := 87) rfl (by decide) dX9_fits_87 hv
            · have hv := hv.2 c8
              refine AWT_iload_n (pc := 67) dX9_fits_67 rfl 3 rfl ?_
              refine AWT_aload_n (pc := 68) dX9_fits_68 rfl 1 rfl ?_
              refine AWT_getI (pc := 69) 7 (by decide) rfl (FL.o q1050) dX9_fits_69 ?_
              refine AWT_aload_n (pc := 72) dX9_fits_72 rfl 1 rfl ?_
              refine AWT_getI (pc := 73) 8 (by decide) rfl (FL.o q1051) dX9_fits_73 ?_
              refine AWT_callS (M' := MX9_in) (pc := 76) [.int s, .int (f 7), .int (f 8)] [] nmX9_in ⟨rfl, rfl⟩ (ML.o q1180) q1181 q82 q1182 dX9_fits_76 rfl rfl (Nat.le_of_ble_eq_true rfl) ⟨Nat.le_of_ble_eq_true rfl, Nat.le_of_ble_eq_true rfl⟩ (mcX9_in f g e s (f 7) (f 8) ) ?_
              rintro _ _ _ _ ⟨rfl, rfl, rfl, rfl⟩
              refine AWT_ifb_ne (pc := 79) (tgt := 86) dX9_fits_79 (by decide) (fun c9 => ?_) (fun c9 => ?_)
              · have hv := hv.1 c9
                refine AWT_iconst (pc := 86) (v := 0) dX9_fits_86 (by decide) ?_
                exact AWT_iret (pc := 87) rfl (by decide) dX9_fits_87 hv
              · have hv := hv.2 c9
                refine AWT_iconst (pc := 82) (v := 1) dX9_fits_82 (by decide) ?_
                refine AWT_goto (pc := 83) (tgt := 87) dX9_fits_83 (by decide) ?_
                exact AWT_iret (pc := 87) rfl (by decide) dX9_fits_87 hv
        · have hv := hv.2 c6
          refine AWT_iconst (pc := 46) (v := 0) dX9_fits_46 (by decide) ?_
          exact AWT_iret (pc := 47) rfl (by decide) dX9_fits_47 hv
theorem mcX9_fits {G : Gl} {o : Nat} {ad : Nat → Nat} (f : Tf) (g : Tg) (e : Te) (t : Int32) (s : Int32) (k : Int32) (m : Int32) (a : Int32) (d : Int32) (h1 : vp_in t 8) (h2 : vp_in (12 * k + s) 72) : MCT G o ad MX9_fits [.ref o, .int t, .int s, .int k, .int m, .int a, .int d] f g e (fun v0 f1 g1 e1 => v0 = some (.int (bI (fitT f g t s k m a d))) ∧ f = f1 ∧ g = g1 ∧ e = e1) := by
  refine MCT.of ⟨rfl, rfl⟩ (by decide) (Nat.le_of_ble_eq_true rfl) rfl (fun h0 => vcX9_fits_0 f g e t s k m a d ?_)
  have no : ∀ {x : Bool}, x = false → (some (Value.int 0) : Option Value) = some (.int (bI x)) ∧ f = f ∧ g = g ∧ e = e := fun h => by subst h; exact ⟨rfl, rfl, rfl, rfl⟩
  have yes : ∀ {x : Bool}, x = true → (some (Value.int 1) : Option Value) = some (.int (bI x)) ∧ f = f ∧ g = g ∧ e = e := fun h => by subst h; exact ⟨rfl, rfl, rfl, rfl⟩
  refine ⟨h2, fun c => no (by simp [fitT, fitV, c]), fun c => ⟨fun c2 => no (by simp [fitT, fitV, Int32.not_le.mpr c2]), fun c2 => ⟨h1, fun c3 => no (by simp [fitT, fitV, c3]), fun c3 => ⟨h1, fun c4 => ⟨fun c5 => yes ?_, fun c5 => ⟨h1, fun c6 => yes ?_, fun c6 => ⟨fun c7 => no ?_, fun c7 => yes ?_⟩⟩⟩, fun c4 => no (by simp [fitT, fitV, c4])⟩⟩⟩⟩
  · simp [fitT, fitV, c, Int32.not_lt.mp c2, c3, c4, c5]
  · simp [fitT, fitV, c, Int32.not_lt.mp c2, c3, c4, c5, c6]
  · simp [fitT, fitV, c5, c6, c7]
  · simp [fitT, fitV, c, Int32.not_lt.mp c2, c3, c4, c5, c6, c7]
def fitP (f : Tf) (g : Tg) (p j s w : Int32) : Bool := fitT f g (g 22 (23 * p + 2).toNatClampNeg) s w (oS g p j 1) (oS g p j 2) (oS g p j 3)
def fitN (f : Tf) (g : Tg) (p j s w : Nat) : Bool := fitT f g (g 22 (23 * p + 2)) (nI s) (nI w) (stp g p j 1) (stp g p j 2) (stp g p j 3)
theorem fitP_n (f : Tf) (g : Tg) (p j s w : Nat) {J W : Int32} (hJ : J = nI j := by rfl) (hW : W = nI w := by rfl) (h : p < 100 := by omega) (hj : j < 3 := by omega) : fitP f g (nI p) J (nI s) W = fitN f g p j s w := by
  subst hJ hW
  unfold fitP fitN
  rw [oS_n g p j 1, oS_n g p j 2, oS_n g p j 3, lm 23 p, ra _ 2, nc (23 * p + 2)]
abbrev MX9_fitsStep : Mi := (yX9_fitsStep, cX9_fitsStep, 5, some .boolean, { frames := 3, cells := 0, slots := 0, locals := 72 })
theorem nmX9_fitsStep : Nm yX9_fitsStep 4 := ⟨by decide +kernel, by decide +kernel, by decide +kernel⟩
theorem vcX9_fitsStep_0 {G : Gl} {o : Nat} {ad : Nat → Nat} {h0 : Hp} {Q : Option Value → Tf → Tg → Te → Prop} (f : Tf) (g : Tg) (e : Te) (p : Int32) (j : Int32) (s : Int32) (w : Int32) (hv : vp_in ((23 * p) + 2) 138 ∧ (vp_in p 5) ∧ (vp_in j 3) ∧ (vp_in 1 6) ∧ (vp_in p 5) ∧ (vp_in j 3) ∧ (vp_in 2 6) ∧ (vp_in p 5) ∧ (vp_in j 3) ∧ (vp_in 3 6) ∧ (vp_in (g 22 ((23 * p) + 2).toNatClampNeg) 8) ∧ (vp_in (12 * w + s) 72) ∧ Q (some (.int (bI (fitT f g (g 22 ((23 * p) + 2).toNatClampNeg) s w (oS g p j 1) (oS g p j 2) (oS g p j 3))))) f g e) :
    AWT G o ad h0 MX9_fitsStep Q f g e 0 [(0, .ref o), (1, .int p), (2, .int j), (3, .int s), (4, .int w)] [] := by
  refine AWT_aload_n (pc := 0) dX9_fitsStep_0 rfl 0 rfl ?_
  refine AWT_aload_n (pc := 1) dX9_fitsStep_1 rfl 0 rfl ?_
  refine AWT_getA (pc := 2) 22 (by decide) rfl rfl (FL.o q1065) dX9_fitsStep_2 ?_
  refine AWT_bipush (pc := 5) (v := 23) dX9_fitsStep_5 (by decide) ?_
  refine AWT_iload_n (pc := 7) dX9_fitsStep_7 rfl 1 rfl ?_
  refine AWT_imul (pc := 8) dX9_fitsStep_8 ?_
  refine AWT_iconst (pc := 9) (v := 2) dX9_fitsStep_9 (by decide) ?_
  refine AWT_iadd (pc := 10) dX9_fitsStep_10 ?_
  refine AWT_iald (pc := 11) (k := 22) (n := 138) rfl dX9_fitsStep_11 hv.1 ?_
  have hv := hv.2
  refine AWT_iload_n (pc := 12) dX9_fitsStep_12 rfl 3 rfl ?_
  refine AWT_iload (pc := 13) dX9_fitsStep_13 4 rfl ?_
  refine AWT_aload_n (pc := 15) dX9_fitsStep_15 rfl 0 rfl ?_
  refine AWT_iload_n (pc := 16) dX9_fitsStep_16 rfl 1 rfl ?_
  refine AWT_iload_n (pc := 17) dX9_fitsStep_17 rfl 2 rfl ?_
  refine AWT_iconst (pc := 18) (v := 1) dX9_fitsStep_18 (by decide) ?_
  have p1 := hv.1
  have hv := hv.2
  have p2 := hv.1
  have hv := hv.2
  have p3 := hv.1
  have hv := hv.2
  refine AWT_callV (M' := MX9_ofStep) (pc := 19) [.int p, .int j, .int 1] [.int w, .int s, .int (g 22 ((23 * p) + 2).toNatClampNeg), .ref o] rfl nmX9_ofStep ⟨rfl, rfl⟩ (ML.o q1314) q1316 qs51 q82 q1317 dX9_fitsStep_19 rfl rfl (Nat.le_of_ble_eq_true rfl) ⟨Nat.le_of_ble_eq_true rfl, Nat.le_of_ble_eq_true rfl⟩ (mcX9_ofStep f g e p j 1 p1 p2 p3) ?_
  rintro _ _ _ _ ⟨rfl, rfl, rfl, rfl⟩
  refine AWT_aload_n (pc := 22) dX9_fitsStep_22 rfl 0 rfl ?_
  refine AWT_iload_n (pc := 23) dX9_fitsStep_23 rfl 1 rfl ?_
  refine AWT_iload_n (pc := 24) dX9_fitsStep_24 rfl 2 rfl ?_
  refine AWT_iconst (pc := 25) (v := 2) dX9_fitsStep_25 (by decide) ?_
  have p4 := hv.1
  have hv := hv.2
  have p5 := hv.1
  have hv := hv.2
  have p6 := hv.1
  have hv := hv.2
  refine AWT_callV (M' := MX9_ofStep) (pc := 26) [.int p, .int j, .int 2] [.int (oS g p j 1), .int w, .int s, .int (g 22 ((23 * p) + 2).toNatClampNeg), .ref o] rfl nmX9_ofStep ⟨rfl, rfl⟩ (ML.o q1314) q1316 qs51 q82 q1317 dX9_fitsStep_26 rfl rfl (Nat.le_of_ble_eq_true rfl) ⟨Nat.le_of_ble_eq_true rfl, Nat.le_of_ble_eq_true rfl⟩ (mcX9_ofStep f g e p j 2 p4 p5 p6) ?_
  rintro _ _ _ _ ⟨rfl, rfl, rfl, rfl⟩
  refine AWT_aload_n (pc := 29) dX9_fitsStep_29 rfl 0 rfl ?_
  refine AWT_iload_n (pc := 30) dX9_fitsStep_30 rfl 1 rfl ?_
  refine AWT_iload_n (pc := 31) dX9_fitsStep_31 rfl 2 rfl ?_
  refine AWT_iconst (pc := 32) (v := 3) dX9_fitsStep_32 (by decide) ?_
  have p7 := hv.1
  have hv := hv.2
  have p8 := hv.1
  have hv := hv.2
  have p9 := hv.1
  have hv := hv.2
  refine AWT_callV (M' := MX9_ofStep) (pc := 33) [.int p, .int j, .int 3] [.int (oS g p j 2), .int (oS g p j 1), .int w, .int s, .int (g 22 ((23 * p) + 2).toNatClampNeg), .ref o] rfl nmX9_ofStep ⟨rfl, rfl⟩ (ML.o q1314) q1316 qs51 q82 q1317 dX9_fitsStep_33 rfl rfl (Nat.le_of_ble_eq_true rfl) ⟨Nat.le_of_ble_eq_true rfl, Nat.le_of_ble_eq_true rfl⟩ (mcX9_ofStep f g e p j 3 p7 p8 p9) ?_
  rintro _ _ _ _ ⟨rfl, rfl, rfl, rfl⟩
  have p10 := hv.1
  have hv := hv.2
  have p11 := hv.1
  have hv := hv.2
  refine AWT_callV (M' := MX9_fits) (pc := 36) [.int (g 22 ((23 * p) + 2).toNatClampNeg), .int s, .int w, .int (oS g p j 1), .int (oS g p j 2), .int (oS g p j 3)] [] rfl nmX9_fits ⟨rfl, rfl⟩ (ML.o q1322) q1324 qs53 q82 q1325 dX9_fitsStep_36 rfl rfl (Nat.le_of_ble_eq_true rfl) ⟨Nat.le_of_ble_eq_true rfl, Nat.le_of_ble_eq_true rfl⟩ (mcX9_fits f g e (g 22 ((23 * p) + 2).toNatClampNeg) s w (oS g p j 1) (oS g p j 2) (oS g p j 3) p10 p11) ?_
  rintro _ _ _ _ ⟨rfl, rfl, rfl, rfl⟩
  exact AWT_iret (pc := 39) rfl (bI_nar _) dX9_fitsStep_39 hv
theorem mcX9_fitsStep {G : Gl} {o : Nat} {ad : Nat → Nat} (f : Tf) (g : Tg) (e : Te) (p : Int32) (j : Int32) (s : Int32) (w : Int32) (h1 : vp_in p 5) (h2 : vp_in j 3) (h3 : vp_in (g 22 (23 * p + 2).toNatClampNeg) 8) (h4 : vp_in (12 * w + s) 72) : MCT G o ad MX9_fitsStep [.ref o, .int p, .int j, .int s, .int w] f g e (fun v0 f1 g1 e1 => v0 = some (.int (bI (fitP f g p j s w))) ∧ f = f1 ∧ g = g1 ∧ e = e1) := by
  refine MCT.of ⟨rfl, rfl⟩ (by decide) (Nat.le_of_ble_eq_true rfl) rfl (fun h0 => vcX9_fitsStep_0 f g e p j s w ?_)
  have k1 : vp_in 1 6 := pk_in 1 6 (by decide)
  have k2 : vp_in 2 6 := pk_in 2 6 (by decide)
  have k3 : vp_in 3 6 := pk_in 3 6 (by decide)
  have h5 : vp_in (23 * p + 2) 138 := by
    obtain ⟨a, ha, rfl⟩ := vp_in_of h1 (by decide)
    rw [lm 23 a, ra _ 2]
    exact vp_in_nI (by omega) (by decide)
  exact ⟨h5, h1, h2, k1, h1, h2, k2, h1, h2, k3, h3, h4, rfl, rfl, rfl, rfl⟩
/-- the slots from a on, so many, as bits -/
def mkS (a n : Nat) : Nat := (2 ^ n - 1) * 2 ^ a
theorem mkS_s : ∀ a, a < 12 → ∀ i, i < 4 → nI (mkS a i) ||| ((1 : Int32) <<< (nI (a + i) &&& 31)) = nI (mkS a (i + 1)) := by decide +kernel
theorem mkS_n0 : ∀ a, a < 12 → ∀ i, i < 5 → 0 < i → mkS a i ≠ 0 ∧ mkS a i < 65536 := by decide +kernel
def okS (f : Tf) (g : Tg) (p j a : Nat) : Bool := decide (a + stN g p j 0 ≤ nN f) && (List.range (stN g p j 0)).all (fun i => fitN f g p j (a + i) 0)
def sS (f : Tf) (g : Tg) (p j a : Int32) : Int32 := if okS f g p.toNatClampNeg j.toNatClampNeg a.toNatClampNeg then nI (mkS a.toNatClampNeg (stN g p.toNatClampNeg j.toNatClampNeg 0)) else 0
/-- a plan that can be asked for -/
def PP (f : Tf) (g : Tg) (P : Nat) : Prop := P < 5 ∧ PlOK f g P ∧ (∃ n : Nat, f 0 = nI n ∧ 4 ≤ n ∧ n ≤ 12) ∧ ∃ t : Nat, f 2 = nI t ∧ t ≤ 8
theorem PP.st {f : Tf} {g : Tg} {P : Nat} (h : PP f g P) : ∃ s, g 22 (23 * P + 4) = nI s ∧ 1 ≤ s ∧ s ≤ 3 ∧ (∀ j, j < s → StOK g P j) := by
  obtain ⟨-, ⟨_, _, _, _, s, -, -, -, -, -, -, -, -, -, h1, h2, h3, h4, -⟩, -⟩ := h
  exact ⟨s, h1, h2, h3, h4⟩
theorem PP.tg {f : Tf} {g : Tg} {P : Nat} (h : PP f g P) : vp_in (g 22 (23 * P + 2)) 8 := by
  obtain ⟨-, ⟨_, _, c, _, _, -, -, -, -, h1, h2, -⟩, -, t, ht, ht8⟩ := h
  rw [h1]
  rw [ht, nc t] at h2
  exact vp_in_nI (by omega) (by decide)
theorem stN_of {g : Tg} {p j k a : Nat} (h : stp g p j k = nI a) (ha : a < 2 ^ 31) : stN g p j k = a := by
  unfold stN
  rw [h]
  exact nI_clamp ha
abbrev MX9_stepSlots : Mi := (yX9_stepSlots, cX9_stepSlots, 6, some .int, { frames := 4, cells := 0, slots := 0, locals := 96 })
theorem nmX9_stepSlots : Nm yX9_stepSlots 3 := ⟨by decide +kernel, by decide +kernel, by decide +kernel⟩
theorem vcX9_stepSlots_0 {G : Gl} {o : Nat} {ad : Nat → Nat} {h0 : Hp} {Q : Option Value → Tf → Tg → Te → Prop} (f : Tf) (g : Tg) (e : Te) (p : Int32) (j : Int32) (a : Int32) (hv : AWT G o ad h0 MX9_stepSlots Q f g e 6 [(0, .ref o), (1, .int p), (2, .int j), (3, .int a), (4, .int 0), (5, .int a)] []) :
    AWT G o ad h0 MX9_stepSlots Q f g e 0 [(0, .ref o), (1, .int p), (2, .int j), (3, .int a)] [] := by
  refine AWT_iconst (pc := 0) (v := 0) dX9_stepSlots_0 (by decide) ?_
  refine AWT_istore (pc := 1) (lv' := [(4, .int 0), (0, .ref o), (1, .int p), (2, .int j), (3, .int a)]) dX9_stepSlots_1 (by decide) rfl ?_
  refine AWT_iload_n (pc := 3) dX9_stepSlots_3 rfl 4 rfl ?_
  refine AWT_istore (pc := 4) (lv' := [(5, .int a), (4, .int 0), (0, .ref o), (1, .int p), (2, .int j), (3, .int a)]) dX9_stepSlots_4 (by decide) rfl ?_
  refine AWT_lv (lv' := [(0, .ref o), (1, .int p), (2, .int j), (3, .int a), (4, .int 0), (5, .int a)]) [2, 3, 4, 5, 1, 0] rfl ?_
  exact hv
theorem vcX9_stepSlots_6 {G : Gl} {o : Nat} {ad : Nat → Nat} {h0 : Hp} {Q : Option Value → Tf → Tg → Te → Prop} (f : Tf) (g : Tg) (e : Te) (p : Int32) (j : Int32) (a : Int32) (set : Int32) (s : Int32) (hv : (vp_in p 5) ∧ (vp_in j 3) ∧ (vp_in 0 6) ∧ (((a + (oS g p j 0)) ≤ s → Q (some (.int set)) f g e) ∧ (¬ (a + (oS g p j 0)) ≤ s → (((f 0) ≤ s → Q (some (.int 0)) f g e) ∧ (¬ (f 0) ≤ s → (vp_in p 5) ∧ (vp_in j 3) ∧ (vp_in (g 22 (23 * p + 2).toNatClampNeg) 8) ∧ (vp_in (12 * 0 + s) 72) ∧ (((fitP f g p j s 0) = true → AWT G o ad h0 MX9_stepSlots Q f g e 6 [(0, .ref o), (1, .int p), (2, .int j), (3, .int a), (4, .int (set ||| (1 <<< (s &&& 31)))), (5, .int (s + 1))] []) ∧ ((fitP f g p j s 0) = false → Q (some (.int 0)) f g e))))))) :
    AWT G o ad h0 MX9_stepSlots Q f g e 6 [(0, .ref o), (1, .int p), (2, .int j), (3, .int a), (4, .int set), (5, .int s)] [] := by
  refine AWT_iload (pc := 6) dX9_stepSlots_6 5 rfl ?_
  refine AWT_iload_n (pc := 8) dX9_stepSlots_8 rfl 3 rfl ?_
  refine AWT_aload_n (pc := 9) dX9_stepSlots_9 rfl 0 rfl ?_
  refine AWT_iload_n (pc := 10) dX9_stepSlots_10 rfl 1 rfl ?_
  refine AWT_iload_n (pc := 11) dX9_stepSlots_11 rfl 2 rfl ?_
  refine AWT_iconst (pc := 12) (v := 0) dX9_stepSlots_12 (by decide) ?_
  have p1 := hv.1
  have hv := hv.2
  have p2 := hv.1
  have hv := hv.2
  have p3 := hv.1
  have hv := hv.2
  refine AWT_callV (M' := MX9_ofStep) (pc := 13) [.int p, .int j, .int 0] [.int a, .int s] rfl nmX9_ofStep ⟨rfl, rfl⟩ (ML.o q1314) q1316 qs51 q82 q1317 dX9_stepSlots_13 rfl rfl (Nat.le_of_ble_eq_true rfl) ⟨Nat.le_of_ble_eq_true rfl, Nat.le_of_ble_eq_true rfl⟩ (mcX9_ofStep f g e p j 0 p1 p2 p3) ?_
  rintro _ _ _ _ ⟨rfl, rfl, rfl, rfl⟩
  refine AWT_iadd (pc := 16) dX9_stepSlots_16 ?_
  refine AWT_icmp_ge (pc := 17) (tgt := 58) dX9_stepSlots_17 (by decide) (fun c4 => ?_) (fun c4 => ?_)
  · have hv := hv.1 c4
    refine AWT_iload (pc := 58) dX9_stepSlots_58 4 rfl ?_
    exact AWT_iret (pc := 60) rfl rfl dX9_stepSlots_60 hv
  · have hv := hv.2 c4
    refine AWT_iload (pc := 20) dX9_stepSlots_20 5 rfl ?_
    refine AWT_aload_n (pc := 22) dX9_stepSlots_22 rfl 0 rfl ?_
    refine AWT_getI (pc := 23) 0 (by decide) rfl (FL.o q1043) dX9_stepSlots_23 ?_
    refine AWT_icmp_ge (pc := 26) (tgt := 41) dX9_stepSlots_26 (by decide) (fun c5 => ?_) (fun c5 => ?_)
    · have hv := hv.1 c5
      refine AWT_iconst (pc := 41) (v := 0) dX9_stepSlots_41 (by decide) ?_
      exact AWT_iret (pc := 42) rfl rfl dX9_stepSlots_42 hv
    · have hv := hv.2 c5
      refine AWT_aload_n (pc := 29) dX9_stepSlots_29 rfl 0 rfl ?_
      refine AWT_iload_n (pc := 30) dX9_stepSlots_30 rfl 1 rfl ?_
      refine AWT_iload_n (pc := 31) dX9_stepSlots_31 rfl 2 rfl ?_
      refine AWT_iload (pc := 32) dX9_stepSlots_32 5 rfl ?_
      refine AWT_iconst (pc := 34) (v := 0) dX9_stepSlots_34 (by decide) ?_
      have p6 := hv.1
      have hv := hv.2
      have p7 := hv.1
      have hv := hv.2
      have p8 := hv.1
      have hv := hv.2
      have p9 := hv.1
      have hv := hv.2
      refine AWT_callV (M' := MX9_fitsStep) (pc := 35) [.int p, .int j, .int s, .int 0] [] rfl nmX9_fitsStep ⟨rfl, rfl⟩ (ML.o q1318) q1320 qs52 q82 q1321 dX9_stepSlots_35 rfl rfl (Nat.le_of_ble_eq_true rfl) ⟨Nat.le_of_ble_eq_true rfl, Nat.le_of_ble_eq_true rfl⟩ (mcX9_fitsStep f g e p j s 0 p6 p7 p8 p9) ?_
      rintro _ _ _ _ ⟨rfl, rfl, rfl, rfl⟩
      refine AWT_ifb_ne (pc := 38) (tgt := 43) dX9_stepSlots_38 (by decide) (fun c10 => ?_) (fun c10 => ?_)
      · have hv := hv.1 c10
        refine AWT_iload (pc := 43) dX9_stepSlots_43 4 rfl ?_
        refine AWT_iconst (pc := 45) (v := 1) dX9_stepSlots_45 (by decide) ?_
        refine AWT_iload (pc := 46) dX9_stepSlots_46 5 rfl ?_
        refine AWT_ishl (pc := 48) dX9_stepSlots_48 ?_
        refine AWT_ior (pc := 49) dX9_stepSlots_49 ?_
        refine AWT_istore (pc := 50) (lv' := [(4, .int (set ||| (1 <<< (s &&& 31)))), (0, .ref o), (1, .int p), (2, .int j), (3, .int a), (5, .int s)]) dX9_stepSlots_50 (by decide) rfl ?_
        refine AWT_iinc (pc := 52) (v := s + 1) (lv' := [(5, .int (s + 1)), (4, .int (set ||| (1 <<< (s &&& 31)))), (0, .ref o), (1, .int p), (2, .int j), (3, .int a)]) dX9_stepSlots_52 5 rfl rfl (by decide) rfl ?_
        refine AWT_goto (pc := 55) (tgt := 6) dX9_stepSlots_55 (by decide) ?_
        refine AWT_lv (lv' := [(0, .ref o), (1, .int p), (2, .int j), (3, .int a), (4, .int (set ||| (1 <<< (s &&& 31)))), (5, .int (s + 1))]) [2, 3, 4, 5, 1, 0] rfl ?_
        exact hv
      · have hv := hv.2 c10
        refine AWT_iconst (pc := 41) (v := 0) dX9_stepSlots_41 (by decide) ?_
        exact AWT_iret (pc := 42) rfl rfl dX9_stepSlots_42 hv
theorem mcX9_stepSlots {G : Gl} {o : Nat} {ad : Nat → Nat} (f : Tf) (g : Tg) (e : Te) (p : Int32) (j : Int32) (a : Int32) (h1 : ∃ P J A : Nat, p = nI P ∧ j = nI J ∧ a = nI A ∧ A < 100 ∧ PP f g P ∧ J < 3 ∧ StOK g P J) : MCT G o ad MX9_stepSlots [.ref o, .int p, .int j, .int a] f g e (fun v0 f1 g1 e1 => v0 = some (.int (sS f g p j a)) ∧ f = f1 ∧ g = g1 ∧ e = e1) := by
  refine MCT.of ⟨rfl, rfl⟩ (by decide) (Nat.le_of_ble_eq_true rfl) rfl (fun h0 => vcX9_stepSlots_0 f g e p j a ?_)
  obtain ⟨p, j, a, rfl, rfl, rfl, hA, hP, hJ, hS⟩ := h1
  have hp5 := hP.1
  have htg := hP.tg
  obtain ⟨-, -, ⟨n, hn, hn4, hn12⟩, -⟩ := hP
  obtain ⟨k, -, -, -, hk, hk1, hk4, -⟩ := hS
  have hk : stp g p j 0 = nI k := hk
  have hkN : stN g p j 0 = k := stN_of hk (by omega)
  have hnN : nN f = n := by unfold nN; rw [hn]; exact nc n
  have hfin : sS f g (nI p) (nI j) (nI a) = if (decide (a + k ≤ n) && (List.range k).all (fun i => fitN f g p j (a + i) 0)) then nI (mkS a k) else 0 := by
    unfold sS okS
    rw [nc p, nc j, nc a, hkN, hnN]
  have key : ∀ i, i ≤ k → (∀ l, l < i → a + l < n ∧ fitN f g p j (a + l) 0 = true) → AWT G o ad h0 MX9_stepSlots (fun v0 f1 g1 e1 => v0 = some (.int (sS f g (nI p) (nI j) (nI a))) ∧ f = f1 ∧ g = g1 ∧ e = e1) f g e 6 [(0, .ref o), (1, .int (nI p)), (2, .int (nI j)), (3, .int (nI a)), (4, .int (nI (mkS a i))), (5, .int (nI (a + i)))] [] := by
    refine loopUp k ?_ ?_
    · intro hall
      refine vcX9_stepSlots_6 f g e _ _ _ _ _ ⟨vp_in_nI hp5 (by decide), vp_in_nI hJ (by decide), pk_in 0 6 (by decide), ?_⟩
      rw [oS_n g p j 0, hk, nI_add]
      refine pk_le (a + k) (a + k) (fun _ => ⟨?_, rfl, rfl, rfl⟩) (fun z => by omega)
      rw [hfin, if_pos]
      rw [Bool.and_eq_true, decide_eq_true_eq, List.all_eq_true]
      refine ⟨?_, fun l hl => (hall l (List.mem_range.mp hl)).2⟩
      have := (hall (k - 1) (by omega)).1
      omega
    · intro i hi ih hall
      refine vcX9_stepSlots_6 f g e _ _ _ _ _ ⟨vp_in_nI hp5 (by decide), vp_in_nI hJ (by decide), pk_in 0 6 (by decide), ?_⟩
      rw [oS_n g p j 0, hk, nI_add]
      refine pk_le (a + k) (a + i) (fun z => by omega) (fun _ => ?_)
      rw [hn]
      refine pk_le n (a + i) (fun z => ⟨?_, rfl, rfl, rfl⟩) (fun z => ?_)
      · rw [hfin, if_neg]
        rw [Bool.and_eq_true, decide_eq_true_eq]
        omega
      · refine ⟨vp_in_nI hp5 (by decide), vp_in_nI hJ (by decide), ?_, ?_, ?_⟩
        · rw [lm 23 p, ra _ 2, nc (23 * p + 2)]
          exact htg
        · rw [show (12 : Int32) * 0 = nI 0 from rfl, nI_add]
          exact vp_in_nI (by omega) (by decide)
        · rw [fitP_n f g p j (a + i) 0]
          refine ⟨fun c => ?_, fun c => ⟨?_, rfl, rfl, rfl⟩⟩
          · rw [mkS_s a (by omega) i (by omega), nI_1]
            exact ih (fun l hl => by
              rcases Nat.lt_or_ge l i with z2 | z2
              · exact hall l z2
              · rw [show l = i by omega]; exact ⟨z, c⟩)
          · rw [hfin, if_neg]
            rw [Bool.and_eq_true, decide_eq_true_eq, List.all_eq_true]
            intro z2
            have := z2.2 i (List.mem_range.mpr hi)
            rw [c] at this
            cases this
  have := key 0 (by omega) (fun l hl => by omega)
  simpa [mkS, nI_0] using this
/-- a set with what is next to it, in the night -/
def wdT (f : Tf) (x : Int32) : Int32 := ((x ||| (x <<< ((1 : Int32) &&& 31))) ||| (x >>> ((1 : Int32) &&& 31))) &&& (((1 : Int32) <<< ((f 0) &&& 31)) - 1)
def addP (f : Tf) (g : Tg) (p x : Int32) : Tg := up2 (up2 (up2 g 24 (200 * p.toNatClampNeg + (g 23 p.toNatClampNeg).toNatClampNeg) x) 25 (200 * p.toNatClampNeg + (g 23 p.toNatClampNeg).toNatClampNeg) (wdT f x)) 23 p.toNatClampNeg (g 23 p.toNatClampNeg + 1)
theorem up2_s (g : Tg) (a i : Nat) (v : Int32) : up2 g a i v a i = v := by simp [up2]
theorem up2_n (g : Tg) {a b : Nat} (i j : Nat) (v : Int32) (h : b ≠ a) : up2 g a i v b j = g b j := by simp [up2, h]
abbrev MX9_addPlacement : Mi := (yX9_addPlacement, cX9_addPlacement, 3, none, { frames := 0, cells := 0, slots := 0, locals := 0 })
theorem nmX9_addPlacement : Nm yX9_addPlacement 2 := ⟨by decide +kernel, by decide +kernel, by decide +kernel⟩
theorem vcX9_addPlacement_0 {G : Gl} {o : Nat} {ad : Nat → Nat} {h0 : Hp} {Q : Option Value → Tf → Tg → Te → Prop} (f : Tf) (g : Tg) (e : Te) (p : Int32) (x : Int32) (hv : vp_in p 5 ∧ vp_in ((200 * p) + (g 23 p.toNatClampNeg)) 1000 ∧ vp_in p 5 ∧ vp_in ((200 * p) + ((up2 g 24 ((200 * p) + (g 23 p.toNatClampNeg)).toNatClampNeg x) 23 p.toNatClampNeg)) 1000 ∧ vp_in p 5 ∧ vp_in p 5 ∧ Q none f (up2 (up2 (up2 g 24 ((200 * p) + (g 23 p.toNatClampNeg)).toNatClampNeg x) 25 ((200 * p) + ((up2 g 24 ((200 * p) + (g 23 p.toNatClampNeg)).toNatClampNeg x) 23 p.toNatClampNeg)).toNatClampNeg (((x ||| (x <<< (1 &&& 31))) ||| (x >>> (1 &&& 31))) &&& ((1 <<< ((f 0) &&& 31)) - 1))) 23 p.toNatClampNeg (((up2 (up2 g 24 ((200 * p) + (g 23 p.toNatClampNeg)).toNatClampNeg x) 25 ((200 * p) + ((up2 g 24 ((200 * p) + (g 23 p.toNatClampNeg)).toNatClampNeg x) 23 p.toNatClampNeg)).toNatClampNeg (((x ||| (x <<< (1 &&& 31))) ||| (x >>> (1 &&& 31))) &&& ((1 <<< ((f 0) &&& 31)) - 1))) 23 p.toNatClampNeg) + 1)) e) :
    AWT G o ad h0 MX9_addPlacement Q f g e 0 [(0, .ref o), (1, .int p), (2, .int x)] [] := by
  refine AWT_aload_n (pc := 0) dX9_addPlacement_0 rfl 0 rfl ?_
  refine AWT_getA (pc := 1) 24 (by decide) rfl rfl (FL.o q1067) dX9_addPlacement_1 ?_
  refine AWT_sipush (pc := 4) (v := 200) dX9_addPlacement_4 (by decide) ?_
  refine AWT_iload_n (pc := 7) dX9_addPlacement_7 rfl 1 rfl ?_
  refine AWT_imul (pc := 8) dX9_addPlacement_8 ?_
  refine AWT_aload_n (pc := 9) dX9_addPlacement_9 rfl 0 rfl ?_
  refine AWT_getA (pc := 10) 23 (by decide) rfl rfl (FL.o q1066) dX9_addPlacement_10 ?_
  refine AWT_iload_n (pc := 13) dX9_addPlacement_13 rfl 1 rfl ?_
  refine AWT_iald (pc := 14) (k := 23) (n := 5) rfl dX9_addPlacement_14 hv.1 ?_
  have hv := hv.2
  refine AWT_iadd (pc := 15) dX9_addPlacement_15 ?_
  refine AWT_iload_n (pc := 16) dX9_addPlacement_16 rfl 2 rfl ?_
  refine AWT_iast (pc := 17) (k := 24) (n := 1000) rfl dX9_addPlacement_17 hv.1 ?_
  have hv := hv.2
  refine AWT_aload_n (pc := 18) dX9_addPlacement_18 rfl 0 rfl ?_
  refine AWT_getA (pc := 19) 25 (by decide) rfl rfl (FL.o q1068) dX9_addPlacement_19 ?_
  refine AWT_sipush (pc := 22) (v := 200) dX9_addPlacement_22 (by decide) ?_
  refine AWT_iload_n (pc := 25) dX9_addPlacement_25 rfl 1 rfl ?_
  refine AWT_imul (pc := 26) dX9_addPlacement_26 ?_
  refine AWT_aload_n (pc := 27) dX9_addPlacement_27 rfl 0 rfl ?_
  refine AWT_getA (pc := 28) 23 (by decide) rfl rfl (FL.o q1066) dX9_addPlacement_28 ?_
  refine AWT_iload_n (pc := 31) dX9_addPlacement_31 rfl 1 rfl ?_
  refine AWT_iald (pc := 32) (k := 23) (n := 5) rfl dX9_addPlacement_32 hv.1 ?_
  have hv := hv.2
  refine AWT_iadd (pc := 33) dX9_addPlacement_33 ?_
  refine AWT_iload_n (pc := 34) dX9_addPlacement_34 rfl 2 rfl ?_
  refine AWT_iload_n (pc := 35) dX9_addPlacement_35 rfl 2 rfl ?_
  refine AWT_iconst (pc := 36) (v := 1) dX9_addPlacement_36 (by decide) ?_
  refine AWT_ishl (pc := 37) dX9_addPlacement_37 ?_
  refine AWT_ior (pc := 38) dX9_addPlacement_38 ?_
  refine AWT_iload_n (pc := 39) dX9_addPlacement_39 rfl 2 rfl ?_
  refine AWT_iconst (pc := 40) (v := 1) dX9_addPlacement_40 (by decide) ?_
  refine AWT_ishr (pc := 41) dX9_addPlacement_41 ?_
  refine AWT_ior (pc := 42) dX9_addPlacement_42 ?_
  refine AWT_iconst (pc := 43) (v := 1) dX9_addPlacement_43 (by decide) ?_
  refine AWT_aload_n (pc := 44) dX9_addPlacement_44 rfl 0 rfl ?_
  refine AWT_getI (pc := 45) 0 (by decide) rfl (FL.o q1043) dX9_addPlacement_45 ?_
  refine AWT_ishl (pc := 48) dX9_addPlacement_48 ?_
  refine AWT_iconst (pc := 49) (v := 1) dX9_addPlacement_49 (by decide) ?_
  refine AWT_isub (pc := 50) dX9_addPlacement_50 ?_
  refine AWT_iand (pc := 51) dX9_addPlacement_51 ?_
  refine AWT_iast (pc := 52) (k := 25) (n := 1000) rfl dX9_addPlacement_52 hv.1 ?_
  have hv := hv.2
  refine AWT_aload_n (pc := 53) dX9_addPlacement_53 rfl 0 rfl ?_
  refine AWT_getA (pc := 54) 23 (by decide) rfl rfl (FL.o q1066) dX9_addPlacement_54 ?_
  refine AWT_iload_n (pc := 57) dX9_addPlacement_57 rfl 1 rfl ?_
  refine AWT_dup2 (pc := 58) dX9_addPlacement_58 rfl rfl ?_
  refine AWT_iald (pc := 59) (k := 23) (n := 5) rfl dX9_addPlacement_59 hv.1 ?_
  have hv := hv.2
  refine AWT_iconst (pc := 60) (v := 1) dX9_addPlacement_60 (by decide) ?_
  refine AWT_iadd (pc := 61) dX9_addPlacement_61 ?_
  refine AWT_iast (pc := 62) (k := 23) (n := 5) rfl dX9_addPlacement_62 hv.1 ?_
  have hv := hv.2
  exact AWT_vret (pc := 63) rfl dX9_addPlacement_63 hv
theorem mcX9_addPlacement {G : Gl} {o : Nat} {ad : Nat → Nat} (f : Tf) (g : Tg) (e : Te) (p : Int32) (x : Int32) (h1 : ∃ P c : Nat, p = nI P ∧ P < 5 ∧ g 23 P = nI c ∧ c < 200) : MCT G o ad MX9_addPlacement [.ref o, .int p, .int x] f g e (fun v0 f1 g1 e1 => v0 = none ∧ f = f1 ∧ addP f g p x = g1 ∧ e = e1) := by
  refine MCT.of ⟨rfl, rfl⟩ (by decide) (Nat.le_of_ble_eq_true rfl) rfl (fun h0 => vcX9_addPlacement_0 f g e p x ?_)
  obtain ⟨P, c, rfl, hP, hc, hc2⟩ := h1
  have hp : vp_in (nI P) 5 := vp_in_nI hP (by decide)
  have e1 : (200 : Int32) * nI P + nI c = nI (200 * P + c) := by rw [lm 200 P, nI_add]
  refine ⟨hp, ?_, hp, ?_, hp, hp, rfl, rfl, ?_, rfl⟩
  · rw [nc P, hc, e1]
    exact vp_in_nI (by omega) (by decide)
  · rw [nc P, hc, e1, nc (200 * P + c), up2_n _ _ _ _ (by decide), hc, e1]
    exact vp_in_nI (by omega) (by decide)
  · unfold addP
    rw [nc P, hc, nc c, e1, nc (200 * P + c), up2_n _ _ _ _ (by decide), hc, e1, nc (200 * P + c), up2_n _ _ _ _ (by decide), up2_n _ _ _ _ (by decide), hc]
    rfl
