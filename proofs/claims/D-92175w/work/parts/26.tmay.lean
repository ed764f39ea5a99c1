/-! ===== the reference: mayBegin (printed by h26.py) ===== -/
def mayT (f : Tf) (g : Tg) (p s w : Int32) : Bool := (!decide (2 < g 32 p.toNatClampNeg)) && ((!decide (f 0 < s + oS g p (g 32 p.toNatClampNeg) 0)) && (fitP f g p (g 32 p.toNatClampNeg) s w && (decide (g 32 p.toNatClampNeg = 0) || !decide (s - g 33 p.toNatClampNeg < oS g p (g 32 p.toNatClampNeg) 4))))
abbrev MX9_mayBegin : Mi := (yX9_mayBegin, cX9_mayBegin, 4, some .boolean, { frames := 4, cells := 0, slots := 0, locals := 96 })
theorem nmX9_mayBegin : Nm yX9_mayBegin 3 := ⟨by decide +kernel, by decide +kernel, by decide +kernel⟩
theorem vcX9_mayBegin_0 {G : Gl} {o : Nat} {ad : Nat → Nat} {h0 : Hp} {Q : Option Value → Tf → Tg → Te → Prop} (f : Tf) (g : Tg) (e : Te) (p : Int32) (s : Int32) (w : Int32) (hv : vp_in p 5 ∧ ((2 < (g 32 p.toNatClampNeg) → Q (some (.int 0)) f g e) ∧ (¬ 2 < (g 32 p.toNatClampNeg) → vp_in p 5 ∧ (vp_in p 5) ∧ (vp_in (g 32 p.toNatClampNeg) 3) ∧ (vp_in 0 6) ∧ (((f 0) < (s + (oS g p (g 32 p.toNatClampNeg) 0)) → Q (some (.int 0)) f g e) ∧ (¬ (f 0) < (s + (oS g p (g 32 p.toNatClampNeg) 0)) → vp_in p 5 ∧ (vp_in p 5) ∧ (vp_in (g 32 p.toNatClampNeg) 3) ∧ (vp_in (g 22 (23 * p + 2).toNatClampNeg) 8) ∧ (vp_in (12 * w + s) 72) ∧ (((fitP f g p (g 32 p.toNatClampNeg) s w) = true → vp_in p 5 ∧ (((g 32 p.toNatClampNeg) = 0 → Q (some (.int 1)) f g e) ∧ (¬ (g 32 p.toNatClampNeg) = 0 → vp_in p 5 ∧ vp_in p 5 ∧ (vp_in p 5) ∧ (vp_in (g 32 p.toNatClampNeg) 3) ∧ (vp_in 4 6) ∧ (((s - (g 33 p.toNatClampNeg)) < (oS g p (g 32 p.toNatClampNeg) 4) → Q (some (.int 0)) f g e) ∧ (¬ (s - (g 33 p.toNatClampNeg)) < (oS g p (g 32 p.toNatClampNeg) 4) → Q (some (.int 1)) f g e))))) ∧ ((fitP f g p (g 32 p.toNatClampNeg) s w) = false → Q (some (.int 0)) f g e))))))) :
    AWT G o ad h0 MX9_mayBegin Q f g e 0 [(0, .ref o), (1, .int p), (2, .int s), (3, .int w)] [] := by
  refine AWT_aload_n (pc := 0) dX9_mayBegin_0 rfl 0 rfl ?_
  refine AWT_getA (pc := 1) 32 (by decide) rfl rfl (FL.o q1075) dX9_mayBegin_1 ?_
  refine AWT_iload_n (pc := 4) dX9_mayBegin_4 rfl 1 rfl ?_
  refine AWT_iald (pc := 5) (k := 32) (n := 5) rfl dX9_mayBegin_5 hv.1 ?_
  have hv := hv.2
  refine AWT_iconst (pc := 6) (v := 2) dX9_mayBegin_6 (by decide) ?_
  refine AWT_icmp_gt (pc := 7) (tgt := 47) dX9_mayBegin_7 (by decide) (fun c1 => ?_) (fun c1 => ?_)
  · have hv := hv.1 c1
    refine AWT_iconst (pc := 47) (v := 0) dX9_mayBegin_47 (by decide) ?_
    exact AWT_iret (pc := 48) rfl (by decide) dX9_mayBegin_48 hv
  · have hv := hv.2 c1
    refine AWT_iload_n (pc := 10) dX9_mayBegin_10 rfl 2 rfl ?_
    refine AWT_aload_n (pc := 11) dX9_mayBegin_11 rfl 0 rfl ?_
    refine AWT_iload_n (pc := 12) dX9_mayBegin_12 rfl 1 rfl ?_
    refine AWT_aload_n (pc := 13) dX9_mayBegin_13 rfl 0 rfl ?_
    refine AWT_getA (pc := 14) 32 (by decide) rfl rfl (FL.o q1075) dX9_mayBegin_14 ?_
    refine AWT_iload_n (pc := 17) dX9_mayBegin_17 rfl 1 rfl ?_
    refine AWT_iald (pc := 18) (k := 32) (n := 5) rfl dX9_mayBegin_18 hv.1 ?_
    have hv := hv.2
    refine AWT_iconst (pc := 19) (v := 0) dX9_mayBegin_19 (by decide) ?_
    have p2 := hv.1
    have hv := hv.2
    have p3 := hv.1
    have hv := hv.2
    have p4 := hv.1
    have hv := hv.2
    refine AWT_callV (M' := MX9_ofStep) (pc := 20) [.int p, .int (g 32 p.toNatClampNeg), .int 0] [.int s] rfl nmX9_ofStep ⟨rfl, rfl⟩ (ML.o q1314) q1316 qs51 q82 q1317 dX9_mayBegin_20 rfl rfl (Nat.le_of_ble_eq_true rfl) ⟨Nat.le_of_ble_eq_true rfl, Nat.le_of_ble_eq_true rfl⟩ (mcX9_ofStep f g e p (g 32 p.toNatClampNeg) 0 p2 p3 p4) ?_
    rintro _ _ _ _ ⟨rfl, rfl, rfl, rfl⟩
    refine AWT_iadd (pc := 23) dX9_mayBegin_23 ?_
    refine AWT_aload_n (pc := 24) dX9_mayBegin_24 rfl 0 rfl ?_
    refine AWT_getI (pc := 25) 0 (by decide) rfl (FL.o q1043) dX9_mayBegin_25 ?_
    refine AWT_icmp_gt (pc := 28) (tgt := 47) dX9_mayBegin_28 (by decide) (fun c5 => ?_) (fun c5 => ?_)
    · have hv := hv.1 c5
      refine AWT_iconst (pc := 47) (v := 0) dX9_mayBegin_47 (by decide) ?_
      exact AWT_iret (pc := 48) rfl (by decide) dX9_mayBegin_48 hv
    · have hv := hv.2 c5
      refine AWT_aload_n (pc := 31) dX9_mayBegin_31 rfl 0 rfl ?_
      refine AWT_iload_n (pc := 32) dX9_mayBegin_32 rfl 1 rfl ?_
      refine AWT_aload_n (pc := 33) dX9_mayBegin_33 rfl 0 rfl ?_
      refine AWT_getA (pc := 34) 32 (by decide) rfl rfl (FL.o q1075) dX9_mayBegin_34 ?_
      refine AWT_iload_n (pc := 37) dX9_mayBegin_37 rfl 1 rfl ?_
      refine AWT_iald (pc := 38) (k := 32) (n := 5) rfl dX9_mayBegin_38 hv.1 ?_
      have hv := hv.2
      refine AWT_iload_n (pc := 39) dX9_mayBegin_39 rfl 2 rfl ?_
      refine AWT_iload_n (pc := 40) dX9_mayBegin_40 rfl 3 rfl ?_
      have p6 := hv.1
      have hv := hv.2
      have p7 := hv.1
      have hv := hv.2
      have p8 := hv.1
      have hv := hv.2
      have p9 := hv.1
      have hv := hv.2
      refine AWT_callV (M' := MX9_fitsStep) (pc := 41) [.int p, .int (g 32 p.toNatClampNeg), .int s, .int w] [] rfl nmX9_fitsStep ⟨rfl, rfl⟩ (ML.o q1318) q1320 qs52 q82 q1321 dX9_mayBegin_41 rfl rfl (Nat.le_of_ble_eq_true rfl) ⟨Nat.le_of_ble_eq_true rfl, Nat.le_of_ble_eq_true rfl⟩ (mcX9_fitsStep f g e p (g 32 p.toNatClampNeg) s w p6 p7 p8 p9) ?_
      rintro _ _ _ _ ⟨rfl, rfl, rfl, rfl⟩
      refine AWT_ifb_ne (pc := 44) (tgt := 49) dX9_mayBegin_44 (by decide) (fun c10 => ?_) (fun c10 => ?_)
      · have hv := hv.1 c10
        refine AWT_aload_n (pc := 49) dX9_mayBegin_49 rfl 0 rfl ?_
        refine AWT_getA (pc := 50) 32 (by decide) rfl rfl (FL.o q1075) dX9_mayBegin_50 ?_
        refine AWT_iload_n (pc := 53) dX9_mayBegin_53 rfl 1 rfl ?_
        refine AWT_iald (pc := 54) (k := 32) (n := 5) rfl dX9_mayBegin_54 hv.1 ?_
        have hv := hv.2
        refine AWT_if_eq (pc := 55) (tgt := 81) dX9_mayBegin_55 (by decide) (fun c11 => ?_) (fun c11 => ?_)
        · have hv := hv.1 c11
          refine AWT_iconst (pc := 81) (v := 1) dX9_mayBegin_81 (by decide) ?_
          refine AWT_goto (pc := 82) (tgt := 86) dX9_mayBegin_82 (by decide) ?_
          exact AWT_iret (pc := 86) rfl (by decide) dX9_mayBegin_86 hv
        · have hv := hv.2 c11
          refine AWT_iload_n (pc := 58) dX9_mayBegin_58 rfl 2 rfl ?_
          refine AWT_aload_n (pc := 59) dX9_mayBegin_59 rfl 0 rfl ?_
          refine AWT_getA (pc := 60) 33 (by decide) rfl rfl (FL.o q1076) dX9_mayBegin_60 ?_
          refine AWT_iload_n (pc := 63) dX9_mayBegin_63 rfl 1 rfl ?_
          refine AWT_iald (pc := 64) (k := 33) (n := 5) rfl dX9_mayBegin_64 hv.1 ?_
          have hv := hv.2
          refine AWT_isub (pc := 65) dX9_mayBegin_65 ?_
          refine AWT_aload_n (pc := 66) dX9_mayBegin_66 rfl 0 rfl ?_
          refine AWT_iload_n (pc := 67) dX9_mayBegin_67 rfl 1 rfl ?_
          refine AWT_aload_n (pc := 68) dX9_mayBegin_68 rfl 0 rfl ?_
          refine AWT_getA (pc := 69) 32 (by decide) rfl rfl (FL.o q1075) dX9_mayBegin_69 ?_
          refine AWT_iload_n (pc := 72) dX9_mayBegin_72 rfl 1 rfl ?_
          refine AWT_iald (pc := 73) (k := 32) (n := 5) rfl dX9_mayBegin_73 hv.1 ?_
          have hv := hv.2
          refine AWT_iconst (pc := 74) (v := 4) dX9_mayBegin_74 (by decide) ?_
          have p12 := hv.1
          have hv := hv.2
          have p13 := hv.1
          have hv := hv.2
          have p14 := hv.1
          have hv := hv.2
          refine AWT_callV (M' := MX9_ofStep) (pc := 75) [.int p, .int (g 32 p.toNatClampNeg), .int 4] [.int (s - (g 33 p.toNatClampNeg))] rfl nmX9_ofStep ⟨rfl, rfl⟩ (ML.o q1314) q1316 qs51 q82 q1317 dX9_mayBegin_75 rfl rfl (Nat.le_of_ble_eq_true rfl) ⟨Nat.le_of_ble_eq_true rfl, Nat.le_of_ble_eq_true rfl⟩ (mcX9_ofStep f g e p (g 32 p.toNatClampNeg) 4 p12 p13 p14) ?_
          rintro _ _ _ _ ⟨rfl, rfl, rfl, rfl⟩
          refine AWT_icmp_lt (pc := 78) (tgt := 85) dX9_mayBegin_78 (by decide) (fun c15 => ?_) (fun c15 => ?_)
          · have hv := hv.1 c15
            refine AWT_iconst (pc := 85) (v := 0) dX9_mayBegin_85 (by decide) ?_
            exact AWT_iret (pc := 86) rfl (by decide) dX9_mayBegin_86 hv
          · have hv := hv.2 c15
            refine AWT_iconst (pc := 81) (v := 1) dX9_mayBegin_81 (by decide) ?_
            refine AWT_goto (pc := 82) (tgt := 86) dX9_mayBegin_82 (by decide) ?_
            exact AWT_iret (pc := 86) rfl (by decide) dX9_mayBegin_86 hv
      · have hv := hv.2 c10
        refine AWT_iconst (pc := 47) (v := 0) dX9_mayBegin_47 (by decide) ?_
        exact AWT_iret (pc := 48) rfl (by decide) dX9_mayBegin_48 hv
theorem mcX9_mayBegin {G : Gl} {o : Nat} {ad : Nat → Nat} (f : Tf) (g : Tg) (e : Te) (p : Int32) (s : Int32) (w : Int32) (h1 : ∃ P : Nat, p = nI P ∧ PP f g P) (h2 : vp_in (12 * w + s) 72) (h3 : 0 ≤ g 32 p.toNatClampNeg) : MCT G o ad MX9_mayBegin [.ref o, .int p, .int s, .int w] f g e (fun v0 f1 g1 e1 => v0 = some (.int (bI (mayT f g p s w))) ∧ f = f1 ∧ g = g1 ∧ e = e1) := by
  refine MCT.of ⟨rfl, rfl⟩ (by decide) (Nat.le_of_ble_eq_true rfl) rfl (fun h0 => vcX9_mayBegin_0 f g e p s w ?_)
  obtain ⟨a, rfl, ha⟩ := h1
  have a5 := ha.1
  have a1 : vp_in (nI a) 5 := vp_in_nI ha.1 (by decide)
  have a3 : vp_in (g 22 (23 * nI a + 2).toNatClampNeg) 8 := by rw [lm 23 a, ra _ 2, nc (23 * a + 2)]; exact ha.tg
  have q0 : vp_in 0 6 := pk_in 0 6 (by decide)
  have q4 : vp_in 4 6 := pk_in 4 6 (by decide)
  refine ⟨a1, fun c => by simp [mayT, c, bI], fun c => ?_⟩
  have hst : vp_in (g 32 (nI a).toNatClampNeg) 3 := by
    obtain ⟨j, hj, ej⟩ := nI_of (Int32.not_lt.mpr h3)
    rw [ej] at c ⊢
    exact vp_in_nI (by
      rcases Nat.lt_or_ge j 3 with z | z
      · exact z
      · exact absurd ((nI_ltI (a := 2) (by decide) hj).mpr (by omega)) c) (by decide)
  refine ⟨a1, a1, hst, q0, fun c2 => by simp [mayT, c2, bI], fun c2 => ⟨a1, a1, hst, a3, h2, fun c3 => ⟨a1, fun c4 => ?_, fun c4 => ⟨a1, a1, a1, hst, q4, fun c5 => ?_, fun c5 => ?_⟩⟩, fun c3 => by simp [mayT, c3, bI]⟩⟩
  · have e : mayT f g (nI a) s w = true := by unfold mayT; rw [decide_eq_false c, decide_eq_false c2, c3, decide_eq_true c4]; rfl
    rw [e]; exact ⟨rfl, rfl, rfl, rfl⟩
  · have e : mayT f g (nI a) s w = false := by unfold mayT; rw [decide_eq_false c4, decide_eq_true c5]; simp only [Bool.not_true, Bool.or_false, Bool.and_false]
    rw [e]; exact ⟨rfl, rfl, rfl, rfl⟩
  · have e : mayT f g (nI a) s w = true := by unfold mayT; rw [decide_eq_false c, decide_eq_false c2, c3, decide_eq_false c5]; simp only [Bool.not_false, Bool.true_and, Bool.or_true]
    rw [e]; exact ⟨rfl, rfl, rfl, rfl⟩
