/-! ===== the reference's watchTo (printed by h28.py) ===== -/
theorem brk_wG (f : Tf) (g : Tg) (x : WS) (v : Int32) (p : Nat) (hp : p < 5) : brkT (upd f 36 v) (wG g x) (nI p) = wG g (brkW f x p) := by
  unfold brkT
  rw [nc p, wG_34, wG_32]
  rfl
theorem wG_re (g : Tg) (st en br lo : Nat → Int32) (a b c d a' b' c' d' : Int32) : wG g (st, en, br, lo, a, b, c, d) = wG g (st, en, br, lo, a', b', c', d') := rfl
theorem ini_0 (g : Tg) : wG g (iniW g 0) = g := by
  funext a i
  unfold wG iniW
  by_cases h : a = 32
  · subst h; rfl
  by_cases h3 : a = 33
  · subst h3; rfl
  by_cases h4 : a = 34
  · subst h4; rfl
  by_cases h5 : a = 35
  · subst h5; rfl
  rw [if_neg h, if_neg h3, if_neg h4, if_neg h5]
theorem upd_lt (a : Nat → Int32) (p : Nat) : upd (fun i => if i < p then 0 else a i) p 0 = fun i => if i < p + 1 then 0 else a i := by
  funext i
  unfold upd
  by_cases h : i = p
  · rw [if_pos h, if_pos (by omega)]
  · rw [if_neg h]
    by_cases h2 : i < p
    · show (if i < p then _ else _) = _
      rw [if_pos h2, if_pos (by omega)]
    · show (if i < p then _ else _) = _
      rw [if_neg h2, if_neg (by omega)]
theorem ini_s (g : Tg) (p : Nat) : up2 (up2 (up2 (wG g (iniW g p)) 32 p 0) 33 p 0) 34 p (bI false) = wG g (iniW g (p + 1)) := by
  rw [wG_32, wG_33, wG_34]
  show wG g (upd (fun i => if i < p then 0 else g 32 i) p 0, upd (fun i => if i < p then 0 else g 33 i) p 0, upd (fun i => if i < p then 0 else g 34 i) p 0, _, _, _, _, _) = _
  rw [upd_lt, upd_lt, upd_lt]
  rfl
abbrev MX9_watchTo : Mi := (yX9_watchTo, cX9_watchTo, 10, none, { frames := 5, cells := 0, slots := 0, locals := 119 })
theorem nmX9_watchTo : Nm yX9_watchTo 3 := ⟨by decide +kernel, by decide +kernel, by decide +kernel⟩
theorem vcX9_watchTo_0 {G : Gl} {o : Nat} {ad : Nat → Nat} {h0 : Hp} {Q : Option Value → Tf → Tg → Te → Prop} (f : Tf) (g : Tg) (e : Te) (r : Int32) (w : Int32) (k : Int32) (hv : AWT G o ad h0 MX9_watchTo Q f g e 3 [(0, .ref o), (1, .int r), (2, .int w), (3, .int k), (4, .int 0)] []) :
    AWT G o ad h0 MX9_watchTo Q f g e 0 [(0, .ref o), (1, .int r), (2, .int w), (3, .int k)] [] := by
  refine AWT_iconst (pc := 0) (v := 0) dX9_watchTo_0 (by decide) ?_
  refine AWT_istore (pc := 1) (lv' := [(4, .int 0), (0, .ref o), (1, .int r), (2, .int w), (3, .int k)]) dX9_watchTo_1 (by decide) rfl ?_
  refine AWT_lv (lv' := [(0, .ref o), (1, .int r), (2, .int w), (3, .int k), (4, .int 0)]) [1, 2, 3, 4, 0] rfl ?_
  exact hv
theorem vcX9_watchTo_3 {G : Gl} {o : Nat} {ad : Nat → Nat} {h0 : Hp} {Q : Option Value → Tf → Tg → Te → Prop} (f : Tf) (g : Tg) (e : Te) (r : Int32) (w : Int32) (k : Int32) (p : Int32) (hv : (((f 21) ≤ p → AWT G o ad h0 MX9_watchTo Q (upd f 36 0) g e 59 [(0, .ref o), (1, .int r), (2, .int w), (3, .int k), (4, .int 0), (5, .int (-1)), (6, .int 0), (7, .int 0)] []) ∧ (¬ (f 21) ≤ p → vp_in p 5 ∧ vp_in p 5 ∧ vp_in p 5 ∧ AWT G o ad h0 MX9_watchTo Q f (up2 (up2 (up2 g 32 p.toNatClampNeg 0) 33 p.toNatClampNeg 0) 34 p.toNatClampNeg (bI false)) e 3 [(0, .ref o), (1, .int r), (2, .int w), (3, .int k), (4, .int (p + 1))] []))) :
    AWT G o ad h0 MX9_watchTo Q f g e 3 [(0, .ref o), (1, .int r), (2, .int w), (3, .int k), (4, .int p)] [] := by
  refine AWT_iload (pc := 3) dX9_watchTo_3 4 rfl ?_
  refine AWT_aload_n (pc := 5) dX9_watchTo_5 rfl 0 rfl ?_
  refine AWT_getI (pc := 6) 21 (by decide) rfl (FL.o q1064) dX9_watchTo_6 ?_
  refine AWT_icmp_ge (pc := 9) (tgt := 42) dX9_watchTo_9 (by decide) (fun c1 => ?_) (fun c1 => ?_)
  · have hv := hv.1 c1
    refine AWT_aload_n (pc := 42) dX9_watchTo_42 rfl 0 rfl ?_
    refine AWT_iconst (pc := 43) (v := 0) dX9_watchTo_43 (by decide) ?_
    refine AWT_putI (pc := 44) 36 (by decide) rfl (FL.o q1079) rfl dX9_watchTo_44 ?_
    refine AWT_iconst (pc := 47) (v := 0) dX9_watchTo_47 (by decide) ?_
    refine AWT_istore (pc := 48) (lv' := [(4, .int 0), (0, .ref o), (1, .int r), (2, .int w), (3, .int k)]) dX9_watchTo_48 (by decide) rfl ?_
    refine AWT_iconst (pc := 50) (v := (-1)) dX9_watchTo_50 (by decide) ?_
    refine AWT_istore (pc := 51) (lv' := [(5, .int (-1)), (4, .int 0), (0, .ref o), (1, .int r), (2, .int w), (3, .int k)]) dX9_watchTo_51 (by decide) rfl ?_
    refine AWT_iconst (pc := 53) (v := 0) dX9_watchTo_53 (by decide) ?_
    refine AWT_istore (pc := 54) (lv' := [(6, .int 0), (5, .int (-1)), (4, .int 0), (0, .ref o), (1, .int r), (2, .int w), (3, .int k)]) dX9_watchTo_54 (by decide) rfl ?_
    refine AWT_iconst (pc := 56) (v := 0) dX9_watchTo_56 (by decide) ?_
    refine AWT_istore (pc := 57) (lv' := [(7, .int 0), (6, .int 0), (5, .int (-1)), (4, .int 0), (0, .ref o), (1, .int r), (2, .int w), (3, .int k)]) dX9_watchTo_57 (by decide) rfl ?_
    refine AWT_lv (lv' := [(0, .ref o), (1, .int r), (2, .int w), (3, .int k), (4, .int 0), (5, .int (-1)), (6, .int 0), (7, .int 0)]) [4, 5, 6, 7, 3, 2, 1, 0] rfl ?_
    exact hv
  · have hv := hv.2 c1
    refine AWT_aload_n (pc := 12) dX9_watchTo_12 rfl 0 rfl ?_
    refine AWT_getA (pc := 13) 32 (by decide) rfl rfl (FL.o q1075) dX9_watchTo_13 ?_
    refine AWT_iload (pc := 16) dX9_watchTo_16 4 rfl ?_
    refine AWT_iconst (pc := 18) (v := 0) dX9_watchTo_18 (by decide) ?_
    refine AWT_iast (pc := 19) (k := 32) (n := 5) rfl dX9_watchTo_19 hv.1 ?_
    have hv := hv.2
    refine AWT_aload_n (pc := 20) dX9_watchTo_20 rfl 0 rfl ?_
    refine AWT_getA (pc := 21) 33 (by decide) rfl rfl (FL.o q1076) dX9_watchTo_21 ?_
    refine AWT_iload (pc := 24) dX9_watchTo_24 4 rfl ?_
    refine AWT_iconst (pc := 26) (v := 0) dX9_watchTo_26 (by decide) ?_
    refine AWT_iast (pc := 27) (k := 33) (n := 5) rfl dX9_watchTo_27 hv.1 ?_
    have hv := hv.2
    refine AWT_aload_n (pc := 28) dX9_watchTo_28 rfl 0 rfl ?_
    refine AWT_getA (pc := 29) 34 (by decide) rfl rfl (FL.o q1077) dX9_watchTo_29 ?_
    refine AWT_iload (pc := 32) dX9_watchTo_32 4 rfl ?_
    refine AWT_iconst (pc := 34) (v := 0) dX9_watchTo_34 (by decide) ?_
    refine AWT_zast (pc := 35) (k := 34) (n := 5) (p := false) rfl rfl dX9_watchTo_35 hv.1 ?_
    have hv := hv.2
    refine AWT_iinc (pc := 36) (v := p + 1) (lv' := [(4, .int (p + 1)), (0, .ref o), (1, .int r), (2, .int w), (3, .int k)]) dX9_watchTo_36 4 rfl rfl (by decide) rfl ?_
    refine AWT_goto (pc := 39) (tgt := 3) dX9_watchTo_39 (by decide) ?_
    refine AWT_lv (lv' := [(0, .ref o), (1, .int r), (2, .int w), (3, .int k), (4, .int (p + 1))]) [1, 2, 3, 4, 0] rfl ?_
    exact hv
theorem vcX9_watchTo_59 {G : Gl} {o : Nat} {ad : Nat → Nat} {h0 : Hp} {Q : Option Value → Tf → Tg → Te → Prop} (f : Tf) (g : Tg) (e : Te) (r : Int32) (w : Int32) (k : Int32) (ins : Int32) (go : Int32) (re : Int32) (s : Int32) (hv : ((k ≤ s → Q none f g e) ∧ (¬ k ≤ s → ((¬ go = (-1) → AWT G o ad h0 MX9_watchTo Q f g e 301 [(0, .ref o), (1, .int r), (2, .int w), (3, .int k), (4, .int ins), (5, .int go), (6, .int re), (7, .int s)] []) ∧ (go = (-1) → AWT G o ad h0 MX9_watchTo Q f g e 74 [(0, .ref o), (1, .int r), (2, .int w), (3, .int k), (4, .int ins), (5, .int go), (6, .int re), (7, .int s), (8, .int 0)] []))))) :
    AWT G o ad h0 MX9_watchTo Q f g e 59 [(0, .ref o), (1, .int r), (2, .int w), (3, .int k), (4, .int ins), (5, .int go), (6, .int re), (7, .int s)] [] := by
  refine AWT_iload (pc := 59) dX9_watchTo_59 7 rfl ?_
  refine AWT_iload_n (pc := 61) dX9_watchTo_61 rfl 3 rfl ?_
  refine AWT_icmp_ge (pc := 62) (tgt := 457) dX9_watchTo_62 (by decide) (fun c1 => ?_) (fun c1 => ?_)
  · have hv := hv.1 c1
    exact AWT_vret (pc := 457) rfl dX9_watchTo_457 hv
  · have hv := hv.2 c1
    refine AWT_iload (pc := 65) dX9_watchTo_65 5 rfl ?_
    refine AWT_iconst (pc := 67) (v := (-1)) dX9_watchTo_67 (by decide) ?_
    refine AWT_icmp_ne (pc := 68) (tgt := 301) dX9_watchTo_68 (by decide) (fun c2 => ?_) (fun c2 => ?_)
    · have hv := hv.1 c2
      exact hv
    · have hv := hv.2 c2
      refine AWT_iconst (pc := 71) (v := 0) dX9_watchTo_71 (by decide) ?_
      refine AWT_istore (pc := 72) (lv' := [(8, .int 0), (0, .ref o), (1, .int r), (2, .int w), (3, .int k), (4, .int ins), (5, .int go), (6, .int re), (7, .int s)]) dX9_watchTo_72 (by decide) rfl ?_
      refine AWT_lv (lv' := [(0, .ref o), (1, .int r), (2, .int w), (3, .int k), (4, .int ins), (5, .int go), (6, .int re), (7, .int s), (8, .int 0)]) [1, 2, 3, 4, 5, 6, 7, 8, 0] rfl ?_
      exact hv
theorem vcX9_watchTo_74 {G : Gl} {o : Nat} {ad : Nat → Nat} {h0 : Hp} {Q : Option Value → Tf → Tg → Te → Prop} (f : Tf) (g : Tg) (e : Te) (r : Int32) (w : Int32) (k : Int32) (ins : Int32) (go : Int32) (re : Int32) (s : Int32) (p : Int32) (hv : (((f 21) ≤ p → AWT G o ad h0 MX9_watchTo Q f g e 143 [(0, .ref o), (1, .int r), (2, .int w), (3, .int k), (4, .int ins), (5, .int go), (6, .int re), (7, .int s), (8, .int (-1)), (9, .int 0)] []) ∧ (¬ (f 21) ≤ p → vp_in p 5 ∧ (((inB (g 32 p.toNatClampNeg) 1 2) = false → AWT G o ad h0 MX9_watchTo Q f g e 74 [(0, .ref o), (1, .int r), (2, .int w), (3, .int k), (4, .int ins), (5, .int go), (6, .int re), (7, .int s), (8, .int (p + 1))] []) ∧ ((inB (g 32 p.toNatClampNeg) 1 2) = true → vp_in p 5 ∧ vp_in p 5 ∧ (vp_in p 5) ∧ (vp_in (g 32 p.toNatClampNeg) 3) ∧ (vp_in 5 6) ∧ (((s - (g 33 p.toNatClampNeg)) ≤ (oS g p (g 32 p.toNatClampNeg) 5) → AWT G o ad h0 MX9_watchTo Q f g e 74 [(0, .ref o), (1, .int r), (2, .int w), (3, .int k), (4, .int ins), (5, .int go), (6, .int re), (7, .int s), (8, .int (p + 1))] []) ∧ (¬ (s - (g 33 p.toNatClampNeg)) ≤ (oS g p (g 32 p.toNatClampNeg) 5) → (vp_in p 5) ∧ AWT G o ad h0 MX9_watchTo Q f (brkT f g p) e 74 [(0, .ref o), (1, .int r), (2, .int w), (3, .int k), (4, .int ins), (5, .int go), (6, .int re), (7, .int s), (8, .int (p + 1))] []))))))) :
    AWT G o ad h0 MX9_watchTo Q f g e 74 [(0, .ref o), (1, .int r), (2, .int w), (3, .int k), (4, .int ins), (5, .int go), (6, .int re), (7, .int s), (8, .int p)] [] := by
  refine AWT_iload (pc := 74) dX9_watchTo_74 8 rfl ?_
  refine AWT_aload_n (pc := 76) dX9_watchTo_76 rfl 0 rfl ?_
  refine AWT_getI (pc := 77) 21 (by decide) rfl (FL.o q1064) dX9_watchTo_77 ?_
  refine AWT_icmp_ge (pc := 80) (tgt := 137) dX9_watchTo_80 (by decide) (fun c1 => ?_) (fun c1 => ?_)
  · have hv := hv.1 c1
    refine AWT_iconst (pc := 137) (v := (-1)) dX9_watchTo_137 (by decide) ?_
    refine AWT_istore (pc := 138) (lv' := [(8, .int (-1)), (0, .ref o), (1, .int r), (2, .int w), (3, .int k), (4, .int ins), (5, .int go), (6, .int re), (7, .int s)]) dX9_watchTo_138 (by decide) rfl ?_
    refine AWT_iconst (pc := 140) (v := 0) dX9_watchTo_140 (by decide) ?_
    refine AWT_istore (pc := 141) (lv' := [(9, .int 0), (8, .int (-1)), (0, .ref o), (1, .int r), (2, .int w), (3, .int k), (4, .int ins), (5, .int go), (6, .int re), (7, .int s)]) dX9_watchTo_141 (by decide) rfl ?_
    refine AWT_lv (lv' := [(0, .ref o), (1, .int r), (2, .int w), (3, .int k), (4, .int ins), (5, .int go), (6, .int re), (7, .int s), (8, .int (-1)), (9, .int 0)]) [2, 3, 4, 5, 6, 7, 8, 9, 1, 0] rfl ?_
    exact hv
  · have hv := hv.2 c1
    refine AWT_aload_n (pc := 83) dX9_watchTo_83 rfl 0 rfl ?_
    refine AWT_getA (pc := 84) 32 (by decide) rfl rfl (FL.o q1075) dX9_watchTo_84 ?_
    refine AWT_iload (pc := 87) dX9_watchTo_87 8 rfl ?_
    refine AWT_iald (pc := 89) (k := 32) (n := 5) rfl dX9_watchTo_89 hv.1 ?_
    have hv := hv.2
    refine AWT_iconst (pc := 90) (v := 1) dX9_watchTo_90 (by decide) ?_
    refine AWT_iconst (pc := 91) (v := 2) dX9_watchTo_91 (by decide) ?_
    refine AWT_callS (M' := MX9_in) (pc := 92) [.int (g 32 p.toNatClampNeg), .int 1, .int 2] [] nmX9_in ⟨rfl, rfl⟩ (ML.o q1180) q1181 q82 q1182 dX9_watchTo_92 rfl rfl (Nat.le_of_ble_eq_true rfl) ⟨Nat.le_of_ble_eq_true rfl, Nat.le_of_ble_eq_true rfl⟩ (mcX9_in f g e (g 32 p.toNatClampNeg) 1 2 ) ?_
    rintro _ _ _ _ ⟨rfl, rfl, rfl, rfl⟩
    refine AWT_ifb_eq (pc := 95) (tgt := 131) dX9_watchTo_95 (by decide) (fun c2 => ?_) (fun c2 => ?_)
    · have hv := hv.1 c2
      refine AWT_iinc (pc := 131) (v := p + 1) (lv' := [(8, .int (p + 1)), (0, .ref o), (1, .int r), (2, .int w), (3, .int k), (4, .int ins), (5, .int go), (6, .int re), (7, .int s)]) dX9_watchTo_131 8 rfl rfl (by decide) rfl ?_
      refine AWT_goto (pc := 134) (tgt := 74) dX9_watchTo_134 (by decide) ?_
      refine AWT_lv (lv' := [(0, .ref o), (1, .int r), (2, .int w), (3, .int k), (4, .int ins), (5, .int go), (6, .int re), (7, .int s), (8, .int (p + 1))]) [1, 2, 3, 4, 5, 6, 7, 8, 0] rfl ?_
      exact hv
    · have hv := hv.2 c2
      refine AWT_iload (pc := 98) dX9_watchTo_98 7 rfl ?_
      refine AWT_aload_n (pc := 100) dX9_watchTo_100 rfl 0 rfl ?_
      refine AWT_getA (pc := 101) 33 (by decide) rfl rfl (FL.o q1076) dX9_watchTo_101 ?_
      refine AWT_iload (pc := 104) dX9_watchTo_104 8 rfl ?_
      refine AWT_iald (pc := 106) (k := 33) (n := 5) rfl dX9_watchTo_106 hv.1 ?_
      have hv := hv.2
      refine AWT_isub (pc := 107) dX9_watchTo_107 ?_
      refine AWT_aload_n (pc := 108) dX9_watchTo_108 rfl 0 rfl ?_
      refine AWT_iload (pc := 109) dX9_watchTo_109 8 rfl ?_
      refine AWT_aload_n (pc := 111) dX9_watchTo_111 rfl 0 rfl ?_
      refine AWT_getA (pc := 112) 32 (by decide) rfl rfl (FL.o q1075) dX9_watchTo_112 ?_
      refine AWT_iload (pc := 115) dX9_watchTo_115 8 rfl ?_
      refine AWT_iald (pc := 117) (k := 32) (n := 5) rfl dX9_watchTo_117 hv.1 ?_
      have hv := hv.2
      refine AWT_iconst (pc := 118) (v := 5) dX9_watchTo_118 (by decide) ?_
      have p3 := hv.1
      have hv := hv.2
      have p4 := hv.1
      have hv := hv.2
      have p5 := hv.1
      have hv := hv.2
      refine AWT_callV (M' := MX9_ofStep) (pc := 119) [.int p, .int (g 32 p.toNatClampNeg), .int 5] [.int (s - (g 33 p.toNatClampNeg))] rfl nmX9_ofStep ⟨rfl, rfl⟩ (ML.o q1314) q1316 qs51 q82 q1317 dX9_watchTo_119 rfl rfl (Nat.le_of_ble_eq_true rfl) ⟨Nat.le_of_ble_eq_true rfl, Nat.le_of_ble_eq_true rfl⟩ (mcX9_ofStep f g e p (g 32 p.toNatClampNeg) 5 p3 p4 p5) ?_
      rintro _ _ _ _ ⟨rfl, rfl, rfl, rfl⟩
      refine AWT_icmp_le (pc := 122) (tgt := 131) dX9_watchTo_122 (by decide) (fun c6 => ?_) (fun c6 => ?_)
      · have hv := hv.1 c6
        refine AWT_iinc (pc := 131) (v := p + 1) (lv' := [(8, .int (p + 1)), (0, .ref o), (1, .int r), (2, .int w), (3, .int k), (4, .int ins), (5, .int go), (6, .int re), (7, .int s)]) dX9_watchTo_131 8 rfl rfl (by decide) rfl ?_
        refine AWT_goto (pc := 134) (tgt := 74) dX9_watchTo_134 (by decide) ?_
        refine AWT_lv (lv' := [(0, .ref o), (1, .int r), (2, .int w), (3, .int k), (4, .int ins), (5, .int go), (6, .int re), (7, .int s), (8, .int (p + 1))]) [1, 2, 3, 4, 5, 6, 7, 8, 0] rfl ?_
        exact hv
      · have hv := hv.2 c6
        refine AWT_aload_n (pc := 125) dX9_watchTo_125 rfl 0 rfl ?_
        refine AWT_iload (pc := 126) dX9_watchTo_126 8 rfl ?_
        have p7 := hv.1
        have hv := hv.2
        refine AWT_callV (M' := MX9_breakChain) (pc := 128) [.int p] [] rfl nmX9_breakChain ⟨rfl, rfl⟩ (ML.o q1398) q1400 qs65 q82 q1401 dX9_watchTo_128 rfl rfl (Nat.le_of_ble_eq_true rfl) ⟨Nat.le_of_ble_eq_true rfl, Nat.le_of_ble_eq_true rfl⟩ (mcX9_breakChain f g e p p7) ?_
        rintro _ _ _ _ ⟨rfl, rfl, rfl, rfl⟩
        refine AWT_iinc (pc := 131) (v := p + 1) (lv' := [(8, .int (p + 1)), (0, .ref o), (1, .int r), (2, .int w), (3, .int k), (4, .int ins), (5, .int go), (6, .int re), (7, .int s)]) dX9_watchTo_131 8 rfl rfl (by decide) rfl ?_
        refine AWT_goto (pc := 134) (tgt := 74) dX9_watchTo_134 (by decide) ?_
        refine AWT_lv (lv' := [(0, .ref o), (1, .int r), (2, .int w), (3, .int k), (4, .int ins), (5, .int go), (6, .int re), (7, .int s), (8, .int (p + 1))]) [1, 2, 3, 4, 5, 6, 7, 8, 0] rfl ?_
        exact hv
theorem vcX9_watchTo_143 {G : Gl} {o : Nat} {ad : Nat → Nat} {h0 : Hp} {Q : Option Value → Tf → Tg → Te → Prop} (f : Tf) (g : Tg) (e : Te) (r : Int32) (w : Int32) (k : Int32) (ins : Int32) (go : Int32) (re : Int32) (s : Int32) (t : Int32) (p : Int32) (hv : (((f 21) ≤ p → ((¬ t = (-1) → vp_in ((23 * t) + 1) 138 ∧ (((g 22 ((23 * t) + 1).toNatClampNeg) = ins → vp_in t 5 ∧ (vp_in t 5) ∧ (vp_in (g 32 t.toNatClampNeg) 3) ∧ (vp_in 0 6) ∧ AWT G o ad h0 MX9_watchTo Q f g e 301 [(0, .ref o), (1, .int r), (2, .int w), (3, .int k), (4, .int ins), (5, .int t), (6, .int (oS g t (g 32 t.toNatClampNeg) 0)), (7, .int s)] []) ∧ (¬ (g 22 ((23 * t) + 1).toNatClampNeg) = ins → vp_in ((23 * t) + 1) 138 ∧ vp_in s 12 ∧ AWT G o ad h0 MX9_watchTo Q f (up2 g 35 s.toNatClampNeg 20) e 301 [(0, .ref o), (1, .int r), (2, .int w), (3, .int k), (4, .int (g 22 ((23 * t) + 1).toNatClampNeg)), (5, .int go), (6, .int re), (7, .int s)] []))) ∧ (t = (-1) → vp_in ((12 * w) + s) 72 ∧ ((¬ (g 9 ((12 * w) + s).toNatClampNeg) = 4 → vp_in s 12 ∧ AWT G o ad h0 MX9_watchTo Q f (up2 g 35 s.toNatClampNeg 22) e 301 [(0, .ref o), (1, .int r), (2, .int w), (3, .int k), (4, .int ins), (5, .int go), (6, .int re), (7, .int s)] []) ∧ ((g 9 ((12 * w) + s).toNatClampNeg) = 4 → vp_in s 12 ∧ AWT G o ad h0 MX9_watchTo Q f (up2 g 35 s.toNatClampNeg 21) e 301 [(0, .ref o), (1, .int r), (2, .int w), (3, .int k), (4, .int ins), (5, .int go), (6, .int re), (7, .int s)] []))))) ∧ (¬ (f 21) ≤ p → (∃ P : Nat, p = nI P ∧ PP f g P) ∧ (vp_in (12 * w + s) 72) ∧ (0 ≤ g 32 p.toNatClampNeg) ∧ (((mayT f g p s w) = false → AWT G o ad h0 MX9_watchTo Q f g e 143 [(0, .ref o), (1, .int r), (2, .int w), (3, .int k), (4, .int ins), (5, .int go), (6, .int re), (7, .int s), (8, .int t), (9, .int (p + 1))] []) ∧ ((mayT f g p s w) = true → ((t = (-1) → AWT G o ad h0 MX9_watchTo Q f g e 143 [(0, .ref o), (1, .int r), (2, .int w), (3, .int k), (4, .int ins), (5, .int go), (6, .int re), (7, .int s), (8, .int p), (9, .int (p + 1))] []) ∧ (¬ t = (-1) → (∃ P : Nat, p = nI P ∧ PP f g P) ∧ (∃ P : Nat, t = nI P ∧ PP f g P) ∧ (((aheadT f g r p t s) = false → AWT G o ad h0 MX9_watchTo Q f g e 143 [(0, .ref o), (1, .int r), (2, .int w), (3, .int k), (4, .int ins), (5, .int go), (6, .int re), (7, .int s), (8, .int t), (9, .int (p + 1))] []) ∧ ((aheadT f g r p t s) = true → AWT G o ad h0 MX9_watchTo Q f g e 143 [(0, .ref o), (1, .int r), (2, .int w), (3, .int k), (4, .int ins), (5, .int go), (6, .int re), (7, .int s), (8, .int p), (9, .int (p + 1))] []))))))))) :
    AWT G o ad h0 MX9_watchTo Q f g e 143 [(0, .ref o), (1, .int r), (2, .int w), (3, .int k), (4, .int ins), (5, .int go), (6, .int re), (7, .int s), (8, .int t), (9, .int p)] [] := by
  refine AWT_iload (pc := 143) dX9_watchTo_143 9 rfl ?_
  refine AWT_aload_n (pc := 145) dX9_watchTo_145 rfl 0 rfl ?_
  refine AWT_getI (pc := 146) 21 (by decide) rfl (FL.o q1064) dX9_watchTo_146 ?_
  refine AWT_icmp_ge (pc := 149) (tgt := 199) dX9_watchTo_149 (by decide) (fun c1 => ?_) (fun c1 => ?_)
  · have hv := hv.1 c1
    refine AWT_iload (pc := 199) dX9_watchTo_199 8 rfl ?_
    refine AWT_iconst (pc := 201) (v := (-1)) dX9_watchTo_201 (by decide) ?_
    refine AWT_icmp_ne (pc := 202) (tgt := 238) dX9_watchTo_202 (by decide) (fun c2 => ?_) (fun c2 => ?_)
    · have hv := hv.1 c2
      refine AWT_aload_n (pc := 238) dX9_watchTo_238 rfl 0 rfl ?_
      refine AWT_getA (pc := 239) 22 (by decide) rfl rfl (FL.o q1065) dX9_watchTo_239 ?_
      refine AWT_bipush (pc := 242) (v := 23) dX9_watchTo_242 (by decide) ?_
      refine AWT_iload (pc := 244) dX9_watchTo_244 8 rfl ?_
      refine AWT_imul (pc := 246) dX9_watchTo_246 ?_
      refine AWT_iconst (pc := 247) (v := 1) dX9_watchTo_247 (by decide) ?_
      refine AWT_iadd (pc := 248) dX9_watchTo_248 ?_
      refine AWT_iald (pc := 249) (k := 22) (n := 138) rfl dX9_watchTo_249 hv.1 ?_
      have hv := hv.2
      refine AWT_iload (pc := 250) dX9_watchTo_250 4 rfl ?_
      refine AWT_icmp_eq (pc := 252) (tgt := 281) dX9_watchTo_252 (by decide) (fun c3 => ?_) (fun c3 => ?_)
      · have hv := hv.1 c3
        refine AWT_iload (pc := 281) dX9_watchTo_281 8 rfl ?_
        refine AWT_istore (pc := 283) (lv' := [(5, .int t), (0, .ref o), (1, .int r), (2, .int w), (3, .int k), (4, .int ins), (6, .int re), (7, .int s), (8, .int t), (9, .int p)]) dX9_watchTo_283 (by decide) rfl ?_
        refine AWT_aload_n (pc := 285) dX9_watchTo_285 rfl 1 rfl ?_
        refine AWT_iload (pc := 286) dX9_watchTo_286 8 rfl ?_
        refine AWT_aload_n (pc := 288) dX9_watchTo_288 rfl 1 rfl ?_
        refine AWT_getA (pc := 289) 32 (by decide) rfl rfl (FL.o q1075) dX9_watchTo_289 ?_
        refine AWT_iload (pc := 292) dX9_watchTo_292 8 rfl ?_
        refine AWT_iald (pc := 294) (k := 32) (n := 5) rfl dX9_watchTo_294 hv.1 ?_
        have hv := hv.2
        refine AWT_iconst (pc := 295) (v := 0) dX9_watchTo_295 (by decide) ?_
        have p4 := hv.1
        have hv := hv.2
        have p5 := hv.1
        have hv := hv.2
        have p6 := hv.1
        have hv := hv.2
        refine AWT_callV (M' := MX9_ofStep) (pc := 296) [.int t, .int (g 32 t.toNatClampNeg), .int 0] [] rfl nmX9_ofStep ⟨rfl, rfl⟩ (ML.o q1314) q1316 qs51 q82 q1317 dX9_watchTo_296 rfl rfl (Nat.le_of_ble_eq_true rfl) ⟨Nat.le_of_ble_eq_true rfl, Nat.le_of_ble_eq_true rfl⟩ (mcX9_ofStep f g e t (g 32 t.toNatClampNeg) 0 p4 p5 p6) ?_
        rintro _ _ _ _ ⟨rfl, rfl, rfl, rfl⟩
        refine AWT_istore (pc := 299) (lv' := [(6, .int (oS g t (g 32 t.toNatClampNeg) 0)), (5, .int t), (0, .ref o), (1, .int r), (2, .int w), (3, .int k), (4, .int ins), (7, .int s), (8, .int t), (9, .int p)]) dX9_watchTo_299 (by decide) rfl ?_
        refine AWT_lv (lv' := [(0, .ref o), (1, .int r), (2, .int w), (3, .int k), (4, .int ins), (5, .int t), (6, .int (oS g t (g 32 t.toNatClampNeg) 0)), (7, .int s)]) [2, 3, 4, 5, 6, 1, 0, 7] rfl ?_
        exact hv
      · have hv := hv.2 c3
        refine AWT_aload_n (pc := 255) dX9_watchTo_255 rfl 0 rfl ?_
        refine AWT_getA (pc := 256) 22 (by decide) rfl rfl (FL.o q1065) dX9_watchTo_256 ?_
        refine AWT_bipush (pc := 259) (v := 23) dX9_watchTo_259 (by decide) ?_
        refine AWT_iload (pc := 261) dX9_watchTo_261 8 rfl ?_
        refine AWT_imul (pc := 263) dX9_watchTo_263 ?_
        refine AWT_iconst (pc := 264) (v := 1) dX9_watchTo_264 (by decide) ?_
        refine AWT_iadd (pc := 265) dX9_watchTo_265 ?_
        refine AWT_iald (pc := 266) (k := 22) (n := 138) rfl dX9_watchTo_266 hv.1 ?_
        have hv := hv.2
        refine AWT_istore (pc := 267) (lv' := [(4, .int (g 22 ((23 * t) + 1).toNatClampNeg)), (0, .ref o), (1, .int r), (2, .int w), (3, .int k), (5, .int go), (6, .int re), (7, .int s), (8, .int t), (9, .int p)]) dX9_watchTo_267 (by decide) rfl ?_
        refine AWT_aload_n (pc := 269) dX9_watchTo_269 rfl 1 rfl ?_
        refine AWT_getA (pc := 270) 35 (by decide) rfl rfl (FL.o q1078) dX9_watchTo_270 ?_
        refine AWT_iload (pc := 273) dX9_watchTo_273 7 rfl ?_
        refine AWT_bipush (pc := 275) (v := 20) dX9_watchTo_275 (by decide) ?_
        refine AWT_iast (pc := 277) (k := 35) (n := 12) rfl dX9_watchTo_277 hv.1 ?_
        have hv := hv.2
        refine AWT_goto (pc := 278) (tgt := 301) dX9_watchTo_278 (by decide) ?_
        refine AWT_lv (lv' := [(0, .ref o), (1, .int r), (2, .int w), (3, .int k), (4, .int (g 22 ((23 * t) + 1).toNatClampNeg)), (5, .int go), (6, .int re), (7, .int s)]) [1, 2, 3, 4, 0, 5, 6, 7] rfl ?_
        exact hv
    · have hv := hv.2 c2
      refine AWT_aload_n (pc := 205) dX9_watchTo_205 rfl 0 rfl ?_
      refine AWT_getA (pc := 206) 35 (by decide) rfl rfl (FL.o q1078) dX9_watchTo_206 ?_
      refine AWT_iload (pc := 209) dX9_watchTo_209 7 rfl ?_
      refine AWT_aload_n (pc := 211) dX9_watchTo_211 rfl 0 rfl ?_
      refine AWT_getA (pc := 212) 9 (by decide) rfl rfl (FL.o q1052) dX9_watchTo_212 ?_
      refine AWT_bipush (pc := 215) (v := 12) dX9_watchTo_215 (by decide) ?_
      refine AWT_iload_n (pc := 217) dX9_watchTo_217 rfl 2 rfl ?_
      refine AWT_imul (pc := 218) dX9_watchTo_218 ?_
      refine AWT_iload (pc := 219) dX9_watchTo_219 7 rfl ?_
      refine AWT_iadd (pc := 221) dX9_watchTo_221 ?_
      refine AWT_iald (pc := 222) (k := 9) (n := 72) rfl dX9_watchTo_222 hv.1 ?_
      have hv := hv.2
      refine AWT_iconst (pc := 223) (v := 4) dX9_watchTo_223 (by decide) ?_
      refine AWT_icmp_ne (pc := 224) (tgt := 232) dX9_watchTo_224 (by decide) (fun c7 => ?_) (fun c7 => ?_)
      · have hv := hv.1 c7
        refine AWT_bipush (pc := 232) (v := 22) dX9_watchTo_232 (by decide) ?_
        refine AWT_iast (pc := 234) (k := 35) (n := 12) rfl dX9_watchTo_234 hv.1 ?_
        have hv := hv.2
        refine AWT_goto (pc := 235) (tgt := 301) dX9_watchTo_235 (by decide) ?_
        refine AWT_lv (lv' := [(0, .ref o), (1, .int r), (2, .int w), (3, .int k), (4, .int ins), (5, .int go), (6, .int re), (7, .int s)]) [0, 1, 2, 3, 4, 5, 6, 7] rfl ?_
        exact hv
      · have hv := hv.2 c7
        refine AWT_bipush (pc := 227) (v := 21) dX9_watchTo_227 (by decide) ?_
        refine AWT_goto (pc := 229) (tgt := 234) dX9_watchTo_229 (by decide) ?_
        refine AWT_iast (pc := 234) (k := 35) (n := 12) rfl dX9_watchTo_234 hv.1 ?_
        have hv := hv.2
        refine AWT_goto (pc := 235) (tgt := 301) dX9_watchTo_235 (by decide) ?_
        refine AWT_lv (lv' := [(0, .ref o), (1, .int r), (2, .int w), (3, .int k), (4, .int ins), (5, .int go), (6, .int re), (7, .int s)]) [0, 1, 2, 3, 4, 5, 6, 7] rfl ?_
        exact hv
  · have hv := hv.2 c1
    refine AWT_aload_n (pc := 152) dX9_watchTo_152 rfl 0 rfl ?_
    refine AWT_iload (pc := 153) dX9_watchTo_153 9 rfl ?_
    refine AWT_iload (pc := 155) dX9_watchTo_155 7 rfl ?_
    refine AWT_iload_n (pc := 157) dX9_watchTo_157 rfl 2 rfl ?_
    have p8 := hv.1
    have hv := hv.2
    have p9 := hv.1
    have hv := hv.2
    have p10 := hv.1
    have hv := hv.2
    refine AWT_callV (M' := MX9_mayBegin) (pc := 158) [.int p, .int s, .int w] [] rfl nmX9_mayBegin ⟨rfl, rfl⟩ (ML.o q1402) q1404 qs66 q82 q1405 dX9_watchTo_158 rfl rfl (Nat.le_of_ble_eq_true rfl) ⟨Nat.le_of_ble_eq_true rfl, Nat.le_of_ble_eq_true rfl⟩ (mcX9_mayBegin f g e p s w p8 p9 p10) ?_
    rintro _ _ _ _ ⟨rfl, rfl, rfl, rfl⟩
    refine AWT_ifb_eq (pc := 161) (tgt := 189) dX9_watchTo_161 (by decide) (fun c11 => ?_) (fun c11 => ?_)
    · have hv := hv.1 c11
      refine AWT_iload (pc := 189) dX9_watchTo_189 8 rfl ?_
      refine AWT_istore (pc := 191) (lv' := [(8, .int t), (0, .ref o), (1, .int r), (2, .int w), (3, .int k), (4, .int ins), (5, .int go), (6, .int re), (7, .int s), (9, .int p)]) dX9_watchTo_191 (by decide) rfl ?_
      refine AWT_iinc (pc := 193) (v := p + 1) (lv' := [(9, .int (p + 1)), (8, .int t), (0, .ref o), (1, .int r), (2, .int w), (3, .int k), (4, .int ins), (5, .int go), (6, .int re), (7, .int s)]) dX9_watchTo_193 9 rfl rfl (by decide) rfl ?_
      refine AWT_goto (pc := 196) (tgt := 143) dX9_watchTo_196 (by decide) ?_
      refine AWT_lv (lv' := [(0, .ref o), (1, .int r), (2, .int w), (3, .int k), (4, .int ins), (5, .int go), (6, .int re), (7, .int s), (8, .int t), (9, .int (p + 1))]) [2, 3, 4, 5, 6, 7, 8, 9, 1, 0] rfl ?_
      exact hv
    · have hv := hv.2 c11
      refine AWT_iload (pc := 164) dX9_watchTo_164 8 rfl ?_
      refine AWT_iconst (pc := 166) (v := (-1)) dX9_watchTo_166 (by decide) ?_
      refine AWT_icmp_eq (pc := 167) (tgt := 184) dX9_watchTo_167 (by decide) (fun c12 => ?_) (fun c12 => ?_)
      · have hv := hv.1 c12
        refine AWT_iload (pc := 184) dX9_watchTo_184 9 rfl ?_
        refine AWT_goto (pc := 186) (tgt := 191) dX9_watchTo_186 (by decide) ?_
        refine AWT_istore (pc := 191) (lv' := [(8, .int p), (0, .ref o), (1, .int r), (2, .int w), (3, .int k), (4, .int ins), (5, .int go), (6, .int re), (7, .int s), (9, .int p)]) dX9_watchTo_191 (by decide) rfl ?_
        refine AWT_iinc (pc := 193) (v := p + 1) (lv' := [(9, .int (p + 1)), (8, .int p), (0, .ref o), (1, .int r), (2, .int w), (3, .int k), (4, .int ins), (5, .int go), (6, .int re), (7, .int s)]) dX9_watchTo_193 9 rfl rfl (by decide) rfl ?_
        refine AWT_goto (pc := 196) (tgt := 143) dX9_watchTo_196 (by decide) ?_
        refine AWT_lv (lv' := [(0, .ref o), (1, .int r), (2, .int w), (3, .int k), (4, .int ins), (5, .int go), (6, .int re), (7, .int s), (8, .int p), (9, .int (p + 1))]) [2, 3, 4, 5, 6, 7, 8, 9, 1, 0] rfl ?_
        exact hv
      · have hv := hv.2 c12
        refine AWT_aload_n (pc := 170) dX9_watchTo_170 rfl 0 rfl ?_
        refine AWT_iload_n (pc := 171) dX9_watchTo_171 rfl 1 rfl ?_
        refine AWT_iload (pc := 172) dX9_watchTo_172 9 rfl ?_
        refine AWT_iload (pc := 174) dX9_watchTo_174 8 rfl ?_
        refine AWT_iload (pc := 176) dX9_watchTo_176 7 rfl ?_
        have p13 := hv.1
        have hv := hv.2
        have p14 := hv.1
        have hv := hv.2
        refine AWT_callV (M' := MX9_isAhead) (pc := 178) [.int r, .int p, .int t, .int s] [] rfl nmX9_isAhead ⟨rfl, rfl⟩ (ML.o q1406) q1408 qs67 q82 q1409 dX9_watchTo_178 rfl rfl (Nat.le_of_ble_eq_true rfl) ⟨Nat.le_of_ble_eq_true rfl, Nat.le_of_ble_eq_true rfl⟩ (mcX9_isAhead f g e r p t s p13 p14) ?_
        rintro _ _ _ _ ⟨rfl, rfl, rfl, rfl⟩
        refine AWT_ifb_eq (pc := 181) (tgt := 189) dX9_watchTo_181 (by decide) (fun c15 => ?_) (fun c15 => ?_)
        · have hv := hv.1 c15
          refine AWT_iload (pc := 189) dX9_watchTo_189 8 rfl ?_
          refine AWT_istore (pc := 191) (lv' := [(8, .int t), (0, .ref o), (1, .int r), (2, .int w), (3, .int k), (4, .int ins), (5, .int go), (6, .int re), (7, .int s), (9, .int p)]) dX9_watchTo_191 (by decide) rfl ?_
          refine AWT_iinc (pc := 193) (v := p + 1) (lv' := [(9, .int (p + 1)), (8, .int t), (0, .ref o), (1, .int r), (2, .int w), (3, .int k), (4, .int ins), (5, .int go), (6, .int re), (7, .int s)]) dX9_watchTo_193 9 rfl rfl (by decide) rfl ?_
          refine AWT_goto (pc := 196) (tgt := 143) dX9_watchTo_196 (by decide) ?_
          refine AWT_lv (lv' := [(0, .ref o), (1, .int r), (2, .int w), (3, .int k), (4, .int ins), (5, .int go), (6, .int re), (7, .int s), (8, .int t), (9, .int (p + 1))]) [2, 3, 4, 5, 6, 7, 8, 9, 1, 0] rfl ?_
          exact hv
        · have hv := hv.2 c15
          refine AWT_iload (pc := 184) dX9_watchTo_184 9 rfl ?_
          refine AWT_goto (pc := 186) (tgt := 191) dX9_watchTo_186 (by decide) ?_
          refine AWT_istore (pc := 191) (lv' := [(8, .int p), (0, .ref o), (1, .int r), (2, .int w), (3, .int k), (4, .int ins), (5, .int go), (6, .int re), (7, .int s), (9, .int p)]) dX9_watchTo_191 (by decide) rfl ?_
          refine AWT_iinc (pc := 193) (v := p + 1) (lv' := [(9, .int (p + 1)), (8, .int p), (0, .ref o), (1, .int r), (2, .int w), (3, .int k), (4, .int ins), (5, .int go), (6, .int re), (7, .int s)]) dX9_watchTo_193 9 rfl rfl (by decide) rfl ?_
          refine AWT_goto (pc := 196) (tgt := 143) dX9_watchTo_196 (by decide) ?_
          refine AWT_lv (lv' := [(0, .ref o), (1, .int r), (2, .int w), (3, .int k), (4, .int ins), (5, .int go), (6, .int re), (7, .int s), (8, .int p), (9, .int (p + 1))]) [2, 3, 4, 5, 6, 7, 8, 9, 1, 0] rfl ?_
          exact hv
theorem vcX9_watchTo_301 {G : Gl} {o : Nat} {ad : Nat → Nat} {h0 : Hp} {Q : Option Value → Tf → Tg → Te → Prop} (f : Tf) (g : Tg) (e : Te) (r : Int32) (w : Int32) (k : Int32) (ins : Int32) (go : Int32) (re : Int32) (s : Int32) (hv : ((go = (-1) → AWT G o ad h0 MX9_watchTo Q f g e 59 [(0, .ref o), (1, .int r), (2, .int w), (3, .int k), (4, .int ins), (5, .int go), (6, .int re), (7, .int (s + 1))] []) ∧ (¬ go = (-1) → vp_in go 5 ∧ (vp_in go 5) ∧ (vp_in (g 32 go.toNatClampNeg) 3) ∧ (vp_in (g 22 (23 * go + 2).toNatClampNeg) 8) ∧ (vp_in (12 * w + s) 72) ∧ (((fitP f g go (g 32 go.toNatClampNeg) s w) = false → vp_in s 12 ∧ (vp_in go 5) ∧ AWT G o ad h0 MX9_watchTo Q f (brkT f (up2 g 35 s.toNatClampNeg (10 + go)) go) e 59 [(0, .ref o), (1, .int r), (2, .int w), (3, .int k), (4, .int ins), (5, .int (-1)), (6, .int re), (7, .int (s + 1))] []) ∧ ((fitP f g go (g 32 go.toNatClampNeg) s w) = true → vp_in s 12 ∧ ((¬ (re + (-1)) = 0 → AWT G o ad h0 MX9_watchTo Q f (up2 g 35 s.toNatClampNeg go) e 59 [(0, .ref o), (1, .int r), (2, .int w), (3, .int k), (4, .int ins), (5, .int go), (6, .int (re + (-1))), (7, .int (s + 1))] []) ∧ ((re + (-1)) = 0 → vp_in go 5 ∧ vp_in go 5 ∧ (vp_in go 5) ∧ ((¬ (((up2 (up2 g 35 s.toNatClampNeg go) 33 go.toNatClampNeg (s + 1)) 32 go.toNatClampNeg) + 1) = (sOf (up2 (up2 g 35 s.toNatClampNeg go) 33 go.toNatClampNeg (s + 1)) go) → vp_in go 5 ∧ vp_in go 5 ∧ vp_in go 5 ∧ ((¬ ((up2 (up2 (up2 g 35 s.toNatClampNeg go) 33 go.toNatClampNeg (s + 1)) 32 go.toNatClampNeg (((up2 (up2 g 35 s.toNatClampNeg go) 33 go.toNatClampNeg (s + 1)) 32 go.toNatClampNeg) + 1)) 32 go.toNatClampNeg) = 8 → AWT G o ad h0 MX9_watchTo Q (upd f 36 ((f 36) + 0)) (up2 (up2 (up2 g 35 s.toNatClampNeg go) 33 go.toNatClampNeg (s + 1)) 32 go.toNatClampNeg (((up2 (up2 g 35 s.toNatClampNeg go) 33 go.toNatClampNeg (s + 1)) 32 go.toNatClampNeg) + 1)) e 59 [(0, .ref o), (1, .int r), (2, .int w), (3, .int k), (4, .int ins), (5, .int (-1)), (6, .int (re + (-1))), (7, .int (s + 1))] []) ∧ (((up2 (up2 (up2 g 35 s.toNatClampNeg go) 33 go.toNatClampNeg (s + 1)) 32 go.toNatClampNeg (((up2 (up2 g 35 s.toNatClampNeg go) 33 go.toNatClampNeg (s + 1)) 32 go.toNatClampNeg) + 1)) 32 go.toNatClampNeg) = 8 → (vp_in go 5) ∧ AWT G o ad h0 MX9_watchTo Q (upd f 36 ((f 36) + (wOf (up2 (up2 (up2 g 35 s.toNatClampNeg go) 33 go.toNatClampNeg (s + 1)) 32 go.toNatClampNeg (((up2 (up2 g 35 s.toNatClampNeg go) 33 go.toNatClampNeg (s + 1)) 32 go.toNatClampNeg) + 1)) go))) (up2 (up2 (up2 g 35 s.toNatClampNeg go) 33 go.toNatClampNeg (s + 1)) 32 go.toNatClampNeg (((up2 (up2 g 35 s.toNatClampNeg go) 33 go.toNatClampNeg (s + 1)) 32 go.toNatClampNeg) + 1)) e 59 [(0, .ref o), (1, .int r), (2, .int w), (3, .int k), (4, .int ins), (5, .int (-1)), (6, .int (re + (-1))), (7, .int (s + 1))] []))) ∧ ((((up2 (up2 g 35 s.toNatClampNeg go) 33 go.toNatClampNeg (s + 1)) 32 go.toNatClampNeg) + 1) = (sOf (up2 (up2 g 35 s.toNatClampNeg go) 33 go.toNatClampNeg (s + 1)) go) → vp_in go 5 ∧ vp_in go 5 ∧ ((¬ ((up2 (up2 (up2 g 35 s.toNatClampNeg go) 33 go.toNatClampNeg (s + 1)) 32 go.toNatClampNeg 8) 32 go.toNatClampNeg) = 8 → AWT G o ad h0 MX9_watchTo Q (upd f 36 ((f 36) + 0)) (up2 (up2 (up2 g 35 s.toNatClampNeg go) 33 go.toNatClampNeg (s + 1)) 32 go.toNatClampNeg 8) e 59 [(0, .ref o), (1, .int r), (2, .int w), (3, .int k), (4, .int ins), (5, .int (-1)), (6, .int (re + (-1))), (7, .int (s + 1))] []) ∧ (((up2 (up2 (up2 g 35 s.toNatClampNeg go) 33 go.toNatClampNeg (s + 1)) 32 go.toNatClampNeg 8) 32 go.toNatClampNeg) = 8 → (vp_in go 5) ∧ AWT G o ad h0 MX9_watchTo Q (upd f 36 ((f 36) + (wOf (up2 (up2 (up2 g 35 s.toNatClampNeg go) 33 go.toNatClampNeg (s + 1)) 32 go.toNatClampNeg 8) go))) (up2 (up2 (up2 g 35 s.toNatClampNeg go) 33 go.toNatClampNeg (s + 1)) 32 go.toNatClampNeg 8) e 59 [(0, .ref o), (1, .int r), (2, .int w), (3, .int k), (4, .int ins), (5, .int (-1)), (6, .int (re + (-1))), (7, .int (s + 1))] []))))))))))) :
    AWT G o ad h0 MX9_watchTo Q f g e 301 [(0, .ref o), (1, .int r), (2, .int w), (3, .int k), (4, .int ins), (5, .int go), (6, .int re), (7, .int s)] [] := by
  refine AWT_iload (pc := 301) dX9_watchTo_301 5 rfl ?_
  refine AWT_iconst (pc := 303) (v := (-1)) dX9_watchTo_303 (by decide) ?_
  refine AWT_icmp_eq (pc := 304) (tgt := 451) dX9_watchTo_304 (by decide) (fun c1 => ?_) (fun c1 => ?_)
  · have hv := hv.1 c1
    refine AWT_iinc (pc := 451) (v := s + 1) (lv' := [(7, .int (s + 1)), (0, .ref o), (1, .int r), (2, .int w), (3, .int k), (4, .int ins), (5, .int go), (6, .int re)]) dX9_watchTo_451 7 rfl rfl (by decide) rfl ?_
    refine AWT_goto (pc := 454) (tgt := 59) dX9_watchTo_454 (by decide) ?_
    refine AWT_lv (lv' := [(0, .ref o), (1, .int r), (2, .int w), (3, .int k), (4, .int ins), (5, .int go), (6, .int re), (7, .int (s + 1))]) [1, 2, 3, 4, 5, 6, 7, 0] rfl ?_
    exact hv
  · have hv := hv.2 c1
    refine AWT_aload_n (pc := 307) dX9_watchTo_307 rfl 0 rfl ?_
    refine AWT_iload (pc := 308) dX9_watchTo_308 5 rfl ?_
    refine AWT_aload_n (pc := 310) dX9_watchTo_310 rfl 0 rfl ?_
    refine AWT_getA (pc := 311) 32 (by decide) rfl rfl (FL.o q1075) dX9_watchTo_311 ?_
    refine AWT_iload (pc := 314) dX9_watchTo_314 5 rfl ?_
    refine AWT_iald (pc := 316) (k := 32) (n := 5) rfl dX9_watchTo_316 hv.1 ?_
    have hv := hv.2
    refine AWT_iload (pc := 317) dX9_watchTo_317 7 rfl ?_
    refine AWT_iload_n (pc := 319) dX9_watchTo_319 rfl 2 rfl ?_
    have p2 := hv.1
    have hv := hv.2
    have p3 := hv.1
    have hv := hv.2
    have p4 := hv.1
    have hv := hv.2
    have p5 := hv.1
    have hv := hv.2
    refine AWT_callV (M' := MX9_fitsStep) (pc := 320) [.int go, .int (g 32 go.toNatClampNeg), .int s, .int w] [] rfl nmX9_fitsStep ⟨rfl, rfl⟩ (ML.o q1318) q1320 qs52 q82 q1321 dX9_watchTo_320 rfl rfl (Nat.le_of_ble_eq_true rfl) ⟨Nat.le_of_ble_eq_true rfl, Nat.le_of_ble_eq_true rfl⟩ (mcX9_fitsStep f g e go (g 32 go.toNatClampNeg) s w p2 p3 p4 p5) ?_
    rintro _ _ _ _ ⟨rfl, rfl, rfl, rfl⟩
    refine AWT_ifb_eq (pc := 323) (tgt := 430) dX9_watchTo_323 (by decide) (fun c6 => ?_) (fun c6 => ?_)
    · have hv := hv.1 c6
      refine AWT_aload_n (pc := 430) dX9_watchTo_430 rfl 0 rfl ?_
      refine AWT_getA (pc := 431) 35 (by decide) rfl rfl (FL.o q1078) dX9_watchTo_431 ?_
      refine AWT_iload (pc := 434) dX9_watchTo_434 7 rfl ?_
      refine AWT_bipush (pc := 436) (v := 10) dX9_watchTo_436 (by decide) ?_
      refine AWT_iload (pc := 438) dX9_watchTo_438 5 rfl ?_
      refine AWT_iadd (pc := 440) dX9_watchTo_440 ?_
      refine AWT_iast (pc := 441) (k := 35) (n := 12) rfl dX9_watchTo_441 hv.1 ?_
      have hv := hv.2
      refine AWT_aload_n (pc := 442) dX9_watchTo_442 rfl 0 rfl ?_
      refine AWT_iload (pc := 443) dX9_watchTo_443 5 rfl ?_
      have p7 := hv.1
      have hv := hv.2
      refine AWT_callV (M' := MX9_breakChain) (pc := 445) [.int go] [] rfl nmX9_breakChain ⟨rfl, rfl⟩ (ML.o q1398) q1400 qs65 q82 q1401 dX9_watchTo_445 rfl rfl (Nat.le_of_ble_eq_true rfl) ⟨Nat.le_of_ble_eq_true rfl, Nat.le_of_ble_eq_true rfl⟩ (mcX9_breakChain f (up2 g 35 s.toNatClampNeg (10 + go)) e go p7) ?_
      rintro _ _ _ _ ⟨rfl, rfl, rfl, rfl⟩
      refine AWT_iconst (pc := 448) (v := (-1)) dX9_watchTo_448 (by decide) ?_
      refine AWT_istore (pc := 449) (lv' := [(5, .int (-1)), (0, .ref o), (1, .int r), (2, .int w), (3, .int k), (4, .int ins), (6, .int re), (7, .int s)]) dX9_watchTo_449 (by decide) rfl ?_
      refine AWT_iinc (pc := 451) (v := s + 1) (lv' := [(7, .int (s + 1)), (5, .int (-1)), (0, .ref o), (1, .int r), (2, .int w), (3, .int k), (4, .int ins), (6, .int re)]) dX9_watchTo_451 7 rfl rfl (by decide) rfl ?_
      refine AWT_goto (pc := 454) (tgt := 59) dX9_watchTo_454 (by decide) ?_
      refine AWT_lv (lv' := [(0, .ref o), (1, .int r), (2, .int w), (3, .int k), (4, .int ins), (5, .int (-1)), (6, .int re), (7, .int (s + 1))]) [2, 3, 4, 5, 6, 1, 7, 0] rfl ?_
      exact hv
    · have hv := hv.2 c6
      refine AWT_aload_n (pc := 326) dX9_watchTo_326 rfl 0 rfl ?_
      refine AWT_getA (pc := 327) 35 (by decide) rfl rfl (FL.o q1078) dX9_watchTo_327 ?_
      refine AWT_iload (pc := 330) dX9_watchTo_330 7 rfl ?_
      refine AWT_iload (pc := 332) dX9_watchTo_332 5 rfl ?_
      refine AWT_iast (pc := 334) (k := 35) (n := 12) rfl dX9_watchTo_334 hv.1 ?_
      have hv := hv.2
      refine AWT_iinc (pc := 335) (v := re + (-1)) (lv' := [(6, .int (re + (-1))), (0, .ref o), (1, .int r), (2, .int w), (3, .int k), (4, .int ins), (5, .int go), (7, .int s)]) dX9_watchTo_335 6 rfl rfl (by decide) rfl ?_
      refine AWT_iload (pc := 338) dX9_watchTo_338 0 rfl ?_
      refine AWT_if_ne (pc := 340) (tgt := 451) dX9_watchTo_340 (by decide) (fun c8 => ?_) (fun c8 => ?_)
      · have hv := hv.1 c8
        refine AWT_iinc (pc := 451) (v := s + 1) (lv' := [(7, .int (s + 1)), (6, .int (re + (-1))), (0, .ref o), (1, .int r), (2, .int w), (3, .int k), (4, .int ins), (5, .int go)]) dX9_watchTo_451 7 rfl rfl (by decide) rfl ?_
        refine AWT_goto (pc := 454) (tgt := 59) dX9_watchTo_454 (by decide) ?_
        refine AWT_lv (lv' := [(0, .ref o), (1, .int r), (2, .int w), (3, .int k), (4, .int ins), (5, .int go), (6, .int (re + (-1))), (7, .int (s + 1))]) [2, 3, 4, 5, 6, 7, 1, 0] rfl ?_
        exact hv
      · have hv := hv.2 c8
        refine AWT_aload_n (pc := 343) dX9_watchTo_343 rfl 1 rfl ?_
        refine AWT_getA (pc := 344) 33 (by decide) rfl rfl (FL.o q1076) dX9_watchTo_344 ?_
        refine AWT_iload (pc := 347) dX9_watchTo_347 6 rfl ?_
        refine AWT_iload (pc := 349) dX9_watchTo_349 7 rfl ?_
        refine AWT_iconst (pc := 351) (v := 1) dX9_watchTo_351 (by decide) ?_
        refine AWT_iadd (pc := 352) dX9_watchTo_352 ?_
        refine AWT_iast (pc := 353) (k := 33) (n := 5) rfl dX9_watchTo_353 hv.1 ?_
        have hv := hv.2
        refine AWT_aload_n (pc := 354) dX9_watchTo_354 rfl 1 rfl ?_
        refine AWT_getA (pc := 355) 32 (by decide) rfl rfl (FL.o q1075) dX9_watchTo_355 ?_
        refine AWT_iload (pc := 358) dX9_watchTo_358 6 rfl ?_
        refine AWT_aload_n (pc := 360) dX9_watchTo_360 rfl 1 rfl ?_
        refine AWT_getA (pc := 361) 32 (by decide) rfl rfl (FL.o q1075) dX9_watchTo_361 ?_
        refine AWT_iload (pc := 364) dX9_watchTo_364 6 rfl ?_
        refine AWT_iald (pc := 366) (k := 32) (n := 5) rfl dX9_watchTo_366 hv.1 ?_
        have hv := hv.2
        refine AWT_iconst (pc := 367) (v := 1) dX9_watchTo_367 (by decide) ?_
        refine AWT_iadd (pc := 368) dX9_watchTo_368 ?_
        refine AWT_aload_n (pc := 369) dX9_watchTo_369 rfl 1 rfl ?_
        refine AWT_iload (pc := 370) dX9_watchTo_370 6 rfl ?_
        have p9 := hv.1
        have hv := hv.2
        refine AWT_callV (M' := MX9_stepsOf) (pc := 372) [.int go] [.int (((up2 (up2 g 35 s.toNatClampNeg go) 33 go.toNatClampNeg (s + 1)) 32 go.toNatClampNeg) + 1), .int go, .ref (ad 32)] rfl nmX9_stepsOf ⟨rfl, rfl⟩ (ML.o q1326) q1328 qs54 q82 q1329 dX9_watchTo_372 rfl rfl (Nat.le_of_ble_eq_true rfl) ⟨Nat.le_of_ble_eq_true rfl, Nat.le_of_ble_eq_true rfl⟩ (mcX9_stepsOf f (up2 (up2 g 35 s.toNatClampNeg go) 33 go.toNatClampNeg (s + 1)) e go p9) ?_
        rintro _ _ _ _ ⟨rfl, rfl, rfl, rfl⟩
        refine AWT_icmp_ne (pc := 375) (tgt := 383) dX9_watchTo_375 (by decide) (fun c10 => ?_) (fun c10 => ?_)
        · have hv := hv.1 c10
          refine AWT_aload_n (pc := 383) dX9_watchTo_383 rfl 1 rfl ?_
          refine AWT_getA (pc := 384) 32 (by decide) rfl rfl (FL.o q1075) dX9_watchTo_384 ?_
          refine AWT_iload (pc := 387) dX9_watchTo_387 6 rfl ?_
          refine AWT_iald (pc := 389) (k := 32) (n := 5) rfl dX9_watchTo_389 hv.1 ?_
          have hv := hv.2
          refine AWT_iconst (pc := 390) (v := 1) dX9_watchTo_390 (by decide) ?_
          refine AWT_iadd (pc := 391) dX9_watchTo_391 ?_
          refine AWT_iast (pc := 392) (k := 32) (n := 5) rfl dX9_watchTo_392 hv.1 ?_
          have hv := hv.2
          refine AWT_aload_n (pc := 393) dX9_watchTo_393 rfl 1 rfl ?_
          refine AWT_dup (pc := 394) dX9_watchTo_394 rfl ?_
          refine AWT_getI (pc := 395) 36 (by decide) rfl (FL.o q1079) dX9_watchTo_395 ?_
          refine AWT_aload_n (pc := 398) dX9_watchTo_398 rfl 1 rfl ?_
          refine AWT_getA (pc := 399) 32 (by decide) rfl rfl (FL.o q1075) dX9_watchTo_399 ?_
          refine AWT_iload (pc := 402) dX9_watchTo_402 6 rfl ?_
          refine AWT_iald (pc := 404) (k := 32) (n := 5) rfl dX9_watchTo_404 hv.1 ?_
          have hv := hv.2
          refine AWT_bipush (pc := 405) (v := 8) dX9_watchTo_405 (by decide) ?_
          refine AWT_icmp_ne (pc := 407) (tgt := 419) dX9_watchTo_407 (by decide) (fun c11 => ?_) (fun c11 => ?_)
          · have hv := hv.1 c11
            refine AWT_iconst (pc := 419) (v := 0) dX9_watchTo_419 (by decide) ?_
            refine AWT_iadd (pc := 420) dX9_watchTo_420 ?_
            refine AWT_putI (pc := 421) 36 (by decide) rfl (FL.o q1079) rfl dX9_watchTo_421 ?_
            refine AWT_iconst (pc := 424) (v := (-1)) dX9_watchTo_424 (by decide) ?_
            refine AWT_istore (pc := 425) (lv' := [(5, .int (-1)), (6, .int (re + (-1))), (0, .ref o), (1, .int r), (2, .int w), (3, .int k), (4, .int ins), (7, .int s)]) dX9_watchTo_425 (by decide) rfl ?_
            refine AWT_goto (pc := 427) (tgt := 451) dX9_watchTo_427 (by decide) ?_
            refine AWT_iinc (pc := 451) (v := s + 1) (lv' := [(7, .int (s + 1)), (5, .int (-1)), (6, .int (re + (-1))), (0, .ref o), (1, .int r), (2, .int w), (3, .int k), (4, .int ins)]) dX9_watchTo_451 7 rfl rfl (by decide) rfl ?_
            refine AWT_goto (pc := 454) (tgt := 59) dX9_watchTo_454 (by decide) ?_
            refine AWT_lv (lv' := [(0, .ref o), (1, .int r), (2, .int w), (3, .int k), (4, .int ins), (5, .int (-1)), (6, .int (re + (-1))), (7, .int (s + 1))]) [3, 4, 5, 6, 7, 1, 2, 0] rfl ?_
            exact hv
          · have hv := hv.2 c11
            refine AWT_aload_n (pc := 410) dX9_watchTo_410 rfl 1 rfl ?_
            refine AWT_iload (pc := 411) dX9_watchTo_411 6 rfl ?_
            have p12 := hv.1
            have hv := hv.2
            refine AWT_callV (M' := MX9_worthOf) (pc := 413) [.int go] [.int (f 36), .ref o] rfl nmX9_worthOf ⟨rfl, rfl⟩ (ML.o q1350) q1352 qs58 q82 q1353 dX9_watchTo_413 rfl rfl (Nat.le_of_ble_eq_true rfl) ⟨Nat.le_of_ble_eq_true rfl, Nat.le_of_ble_eq_true rfl⟩ (mcX9_worthOf f (up2 (up2 (up2 g 35 s.toNatClampNeg go) 33 go.toNatClampNeg (s + 1)) 32 go.toNatClampNeg (((up2 (up2 g 35 s.toNatClampNeg go) 33 go.toNatClampNeg (s + 1)) 32 go.toNatClampNeg) + 1)) e go p12) ?_
            rintro _ _ _ _ ⟨rfl, rfl, rfl, rfl⟩
            refine AWT_goto (pc := 416) (tgt := 420) dX9_watchTo_416 (by decide) ?_
            refine AWT_iadd (pc := 420) dX9_watchTo_420 ?_
            refine AWT_putI (pc := 421) 36 (by decide) rfl (FL.o q1079) rfl dX9_watchTo_421 ?_
            refine AWT_iconst (pc := 424) (v := (-1)) dX9_watchTo_424 (by decide) ?_
            refine AWT_istore (pc := 425) (lv' := [(5, .int (-1)), (6, .int (re + (-1))), (0, .ref o), (1, .int r), (2, .int w), (3, .int k), (4, .int ins), (7, .int s)]) dX9_watchTo_425 (by decide) rfl ?_
            refine AWT_goto (pc := 427) (tgt := 451) dX9_watchTo_427 (by decide) ?_
            refine AWT_iinc (pc := 451) (v := s + 1) (lv' := [(7, .int (s + 1)), (5, .int (-1)), (6, .int (re + (-1))), (0, .ref o), (1, .int r), (2, .int w), (3, .int k), (4, .int ins)]) dX9_watchTo_451 7 rfl rfl (by decide) rfl ?_
            refine AWT_goto (pc := 454) (tgt := 59) dX9_watchTo_454 (by decide) ?_
            refine AWT_lv (lv' := [(0, .ref o), (1, .int r), (2, .int w), (3, .int k), (4, .int ins), (5, .int (-1)), (6, .int (re + (-1))), (7, .int (s + 1))]) [3, 4, 5, 6, 7, 1, 2, 0] rfl ?_
            exact hv
        · have hv := hv.2 c10
          refine AWT_bipush (pc := 378) (v := 8) dX9_watchTo_378 (by decide) ?_
          refine AWT_goto (pc := 380) (tgt := 392) dX9_watchTo_380 (by decide) ?_
          refine AWT_iast (pc := 392) (k := 32) (n := 5) rfl dX9_watchTo_392 hv.1 ?_
          have hv := hv.2
          refine AWT_aload_n (pc := 393) dX9_watchTo_393 rfl 1 rfl ?_
          refine AWT_dup (pc := 394) dX9_watchTo_394 rfl ?_
          refine AWT_getI (pc := 395) 36 (by decide) rfl (FL.o q1079) dX9_watchTo_395 ?_
          refine AWT_aload_n (pc := 398) dX9_watchTo_398 rfl 1 rfl ?_
          refine AWT_getA (pc := 399) 32 (by decide) rfl rfl (FL.o q1075) dX9_watchTo_399 ?_
          refine AWT_iload (pc := 402) dX9_watchTo_402 6 rfl ?_
          refine AWT_iald (pc := 404) (k := 32) (n := 5) rfl dX9_watchTo_404 hv.1 ?_
          have hv := hv.2
          refine AWT_bipush (pc := 405) (v := 8) dX9_watchTo_405 (by decide) ?_
          refine AWT_icmp_ne (pc := 407) (tgt := 419) dX9_watchTo_407 (by decide) (fun c13 => ?_) (fun c13 => ?_)
          · have hv := hv.1 c13
            refine AWT_iconst (pc := 419) (v := 0) dX9_watchTo_419 (by decide) ?_
            refine AWT_iadd (pc := 420) dX9_watchTo_420 ?_
            refine AWT_putI (pc := 421) 36 (by decide) rfl (FL.o q1079) rfl dX9_watchTo_421 ?_
            refine AWT_iconst (pc := 424) (v := (-1)) dX9_watchTo_424 (by decide) ?_
            refine AWT_istore (pc := 425) (lv' := [(5, .int (-1)), (6, .int (re + (-1))), (0, .ref o), (1, .int r), (2, .int w), (3, .int k), (4, .int ins), (7, .int s)]) dX9_watchTo_425 (by decide) rfl ?_
            refine AWT_goto (pc := 427) (tgt := 451) dX9_watchTo_427 (by decide) ?_
            refine AWT_iinc (pc := 451) (v := s + 1) (lv' := [(7, .int (s + 1)), (5, .int (-1)), (6, .int (re + (-1))), (0, .ref o), (1, .int r), (2, .int w), (3, .int k), (4, .int ins)]) dX9_watchTo_451 7 rfl rfl (by decide) rfl ?_
            refine AWT_goto (pc := 454) (tgt := 59) dX9_watchTo_454 (by decide) ?_
            refine AWT_lv (lv' := [(0, .ref o), (1, .int r), (2, .int w), (3, .int k), (4, .int ins), (5, .int (-1)), (6, .int (re + (-1))), (7, .int (s + 1))]) [3, 4, 5, 6, 7, 1, 2, 0] rfl ?_
            exact hv
          · have hv := hv.2 c13
            refine AWT_aload_n (pc := 410) dX9_watchTo_410 rfl 1 rfl ?_
            refine AWT_iload (pc := 411) dX9_watchTo_411 6 rfl ?_
            have p14 := hv.1
            have hv := hv.2
            refine AWT_callV (M' := MX9_worthOf) (pc := 413) [.int go] [.int (f 36), .ref o] rfl nmX9_worthOf ⟨rfl, rfl⟩ (ML.o q1350) q1352 qs58 q82 q1353 dX9_watchTo_413 rfl rfl (Nat.le_of_ble_eq_true rfl) ⟨Nat.le_of_ble_eq_true rfl, Nat.le_of_ble_eq_true rfl⟩ (mcX9_worthOf f (up2 (up2 (up2 g 35 s.toNatClampNeg go) 33 go.toNatClampNeg (s + 1)) 32 go.toNatClampNeg 8) e go p14) ?_
            rintro _ _ _ _ ⟨rfl, rfl, rfl, rfl⟩
            refine AWT_goto (pc := 416) (tgt := 420) dX9_watchTo_416 (by decide) ?_
            refine AWT_iadd (pc := 420) dX9_watchTo_420 ?_
            refine AWT_putI (pc := 421) 36 (by decide) rfl (FL.o q1079) rfl dX9_watchTo_421 ?_
            refine AWT_iconst (pc := 424) (v := (-1)) dX9_watchTo_424 (by decide) ?_
            refine AWT_istore (pc := 425) (lv' := [(5, .int (-1)), (6, .int (re + (-1))), (0, .ref o), (1, .int r), (2, .int w), (3, .int k), (4, .int ins), (7, .int s)]) dX9_watchTo_425 (by decide) rfl ?_
            refine AWT_goto (pc := 427) (tgt := 451) dX9_watchTo_427 (by decide) ?_
            refine AWT_iinc (pc := 451) (v := s + 1) (lv' := [(7, .int (s + 1)), (5, .int (-1)), (6, .int (re + (-1))), (0, .ref o), (1, .int r), (2, .int w), (3, .int k), (4, .int ins)]) dX9_watchTo_451 7 rfl rfl (by decide) rfl ?_
            refine AWT_goto (pc := 454) (tgt := 59) dX9_watchTo_454 (by decide) ?_
            refine AWT_lv (lv' := [(0, .ref o), (1, .int r), (2, .int w), (3, .int k), (4, .int ins), (5, .int (-1)), (6, .int (re + (-1))), (7, .int (s + 1))]) [3, 4, 5, 6, 7, 1, 2, 0] rfl ?_
            exact hv
theorem mcX9_watchTo {G : Gl} {o : Nat} {ad : Nat → Nat} (f : Tf) (g : Tg) (e : Te) (r : Int32) (w : Int32) (k : Int32) (h1 : MI f g) (h2 : ∃ W : Nat, w = nI W ∧ W ≤ 5) (h3 : ∃ K : Nat, k = nI K ∧ K ≤ nN f) : MCT G o ad MX9_watchTo [.ref o, .int r, .int w, .int k] f g e (fun v0 f1 g1 e1 => v0 = none ∧ upd f 36 (WZ f g r w k.toNatClampNeg).sc = f1 ∧ wG g (WZ f g r w k.toNatClampNeg) = g1 ∧ e = e1) := by
  refine MCT.of ⟨rfl, rfl⟩ (by decide) (Nat.le_of_ble_eq_true rfl) rfl (fun h0 => vcX9_watchTo_0 f g e r w k ?_)
  have hP := WP.of h1
  obtain ⟨e21, hP5, hPP, n, hn, hnN, hn12⟩ := hP
  obtain ⟨W, rfl, hW⟩ := h2
  obtain ⟨K, rfl, hK⟩ := h3
  rw [nc K]
  have f21 : ∀ v, upd f 36 v 21 = nI (nP f) := fun v => e21
  have q5 : ∀ p, p < nP f → vp_in (nI p) 5 := fun p hp => vp_in_nI (by omega) (by decide)
  have q0 : vp_in 0 6 := pk_in 0 6 (by decide)
  have hws : ∀ s, s < K → vp_in (12 * nI W + nI s) 72 := fun s hs => by
    rw [lm 12 W, nI_add]
    exact vp_in_nI (by omega) (by decide)
  have hs12 : ∀ s, s < K → vp_in (nI s) 12 := fun s hs => vp_in_nI (by omega) (by decide)
  have tg : ∀ p, p < nP f → vp_in (g 22 (23 * nI p + 2).toNatClampNeg) 8 := fun p hp => by
    rw [lm 23 p, ra _ 2, nc (23 * p + 2)]; exact (hPP p hp).tg
  have v1 : ∀ p, p < nP f → vp_in (23 * nI p + 1) 138 := fun p hp => by
    rw [lm 23 p, ra _ 1]; exact vp_in_nI (by omega) (by decide)
  -- the plans are laid
  refine loopUp (A := fun p => AWT G o ad h0 MX9_watchTo (fun v0 f1 g1 e1 => v0 = none ∧ upd f 36 (WZ f g r (nI W) K).sc = f1 ∧ wG g (WZ f g r (nI W) K) = g1 ∧ e = e1) f (wG g (iniW g p)) e 3 [(0, .ref o), (1, .int r), (2, .int (nI W)), (3, .int (nI K)), (4, .int (nI p))] []) (nP f) ?_ ?_ 0 (by omega) |> (fun z => by rw [ini_0] at z; exact z)
  rotate_left
  · intro p hp ih
    refine vcX9_watchTo_3 f _ e r _ _ _ ?_
    rw [e21]
    refine pk_le (nP f) p (fun z => by omega) (fun _ => ⟨q5 p hp, q5 p hp, q5 p hp, ?_⟩)
    rw [nc p, ini_s, nI_1]
    exact ih
  refine vcX9_watchTo_3 f _ e r _ _ _ ?_
  rw [e21]
  refine pk_le (nP f) (nP f) (fun _ => ?_) (fun z => by omega)
  -- the slots
  refine loopUp (A := fun s => AWT G o ad h0 MX9_watchTo (fun v0 f1 g1 e1 => v0 = none ∧ upd f 36 (WZ f g r (nI W) K).sc = f1 ∧ wG g (WZ f g r (nI W) K) = g1 ∧ e = e1) (upd f 36 (WZ f g r (nI W) s).sc) (wG g (WZ f g r (nI W) s)) e 59 [(0, .ref o), (1, .int r), (2, .int (nI W)), (3, .int (nI K)), (4, .int (WZ f g r (nI W) s).ins), (5, .int (WZ f g r (nI W) s).go), (6, .int (WZ f g r (nI W) s).re), (7, .int (nI s))] []) K ?_ ?_ 0 (by omega)
  · refine vcX9_watchTo_59 _ _ e r _ _ _ _ _ _ ?_
    exact pk_le K K (fun _ => ⟨rfl, rfl, rfl, rfl⟩) (fun z => by omega)
  intro s hs ih
  have hI := WI.all (WP.of h1) r (nI W) s
  have ih' : ∀ x, slotW f g r (nI W) s (WZ f g r (nI W) s) = x → AWT G o ad h0 MX9_watchTo (fun v0 f1 g1 e1 => v0 = none ∧ upd f 36 (WZ f g r (nI W) K).sc = f1 ∧ wG g (WZ f g r (nI W) K) = g1 ∧ e = e1) (upd f 36 x.sc) (wG g x) e 59 [(0, .ref o), (1, .int r), (2, .int (nI W)), (3, .int (nI K)), (4, .int x.ins), (5, .int x.go), (6, .int x.re), (7, .int (nI (s + 1)))] [] := fun x hx => by
    subst hx; exact ih
  clear ih
  generalize WZ f g r (nI W) s = x at hI ih' ⊢
  generalize hQ : (fun v0 f1 g1 e1 => v0 = none ∧ upd f 36 (WZ f g r (nI W) K).sc = f1 ∧ wG g (WZ f g r (nI W) K) = g1 ∧ e = e1 : Option Value → Tf → Tg → Te → Prop) = Q at ih' ⊢
  -- what goes goes on
  have h301 : ∀ y, WI f g y → slotW f g r (nI W) s x = goW f g (nI W) s y → AWT G o ad h0 MX9_watchTo Q (upd f 36 y.sc) (wG g y) e 301 [(0, .ref o), (1, .int r), (2, .int (nI W)), (3, .int (nI K)), (4, .int y.ins), (5, .int y.go), (6, .int y.re), (7, .int (nI s))] [] := by
    intro y hy ey
    refine vcX9_watchTo_301 _ _ e r _ _ _ _ _ _ ?_
    rw [nI_1]
    unfold goW at ey
    refine ⟨fun c => ?_, fun c => ?_⟩
    · rw [if_pos c] at ey
      exact ih' y ey
    rw [if_neg c] at ey
    obtain ⟨p, hp, ep, j, ej, hj⟩ := hy.2.1.resolve_left c
    obtain ⟨k1, k3, ks⟩ := stK_of (hPP p hp)
    have en : y.go.toNatClampNeg = p := by rw [ep]; exact nc p
    have g5 : vp_in y.go 5 := by rw [ep]; exact q5 p hp
    rw [en] at ey ⊢
    have hfit : fitP (upd f 36 y.sc) (wG g y) y.go (wG g y 32 p) (nI s) (nI W) = fitP f g y.go (y.st p) (nI s) (nI W) := rfl
    rw [hfit, nc s]
    refine ⟨g5, g5, by show vp_in (y.st p) 3; rw [ej]; exact vp_in_nI (by omega) (by decide), by show vp_in (g 22 (23 * y.go + 2).toNatClampNeg) 8; rw [ep]; exact tg p hp, hws s hs, fun c2 => ⟨hs12 s hs, g5, ?_⟩, fun c2 => ⟨hs12 s hs, fun c3 => ?_, fun c3 => ?_⟩⟩
    · rw [c2, if_neg (by decide)] at ey
      rw [wG_35]
      have := brk_wG f g (setLo y s (10 + y.go)) y.sc p (by omega)
      rw [← ep] at this
      exact Eq.mpr (congrArg (fun z => AWT G o ad h0 MX9_watchTo Q (upd f 36 y.sc) z e 59 _ _) this) (ih' _ ey)
    · rw [c2, if_pos rfl, if_neg c3] at ey
      rw [wG_35]
      have z := ih' _ ey
      rw [wG_re g y.st y.en y.br (upd y.lo s y.go) y.sc y.ins y.go (y.re + -1) y.sc y.ins y.go y.re] at z
      exact z
    · rw [c2, if_pos rfl, if_pos c3, nI_1] at ey
      rw [wG_35, wG_33]
      have eo : ∀ (z : WS), sOf (wG g z) y.go = sOf g y.go := fun z => rfl
      have ew : ∀ (z : WS), wOf (wG g z) y.go = wOf g y.go := fun z => rfl
      have es : ∀ (z : WS), wG g z 32 p = z.st p := fun z => rfl
      rw [eo, es, wG_32, wG_32, es, es, ew, ew]
      have e36 : upd f 36 y.sc 36 = y.sc := upd_s _ _ _
      rw [e36, upd_upd, upd_upd]
      have nx : nxW g y = if y.st p + 1 = sOf g y.go then 8 else y.st p + 1 := by unfold nxW; rw [en]
      have u8 : ∀ v, upd y.st p v p = v := fun v => upd_s _ _ _
      refine ⟨g5, g5, g5, fun c4 => ⟨g5, g5, g5, fun c5 => ?_, fun c5 => ⟨g5, ?_⟩⟩, fun c4 => ⟨g5, g5, fun c5 => ?_, fun c5 => ⟨g5, ?_⟩⟩⟩
      · rw [if_neg c4] at nx
        rw [nx] at ey
        have : y.st p + 1 ≠ 8 := fun z => c5 ((u8 _).trans z)
        rw [if_neg this] at ey
        exact ih' _ ey
      · rw [if_neg c4] at nx
        rw [nx] at ey
        have : y.st p + 1 = 8 := (u8 _).symm.trans c5
        rw [if_pos this] at ey
        exact ih' _ ey
      · exact absurd (u8 8) c5
      · rw [if_pos c4] at nx
        rw [nx, if_pos rfl] at ey
        exact ih' _ ey
  refine vcX9_watchTo_59 _ _ e r _ _ _ _ _ _ ?_
  refine pk_le K s (fun z => by omega) (fun _ => ⟨fun c => ?_, fun c => ?_⟩)
  · exact h301 x hI (by unfold slotW; rw [if_neg c])
  -- chains that came too late
  have k := ph1_k f g s x
  have hph := (hI.ph (WP.of h1) s).resolve_right (fun z => z c)
  have hst : ∀ p, p ≤ nP f → ∀ q, q < nP f → stO g q ((ph1 f g s x p).st q) := fun p hp q hq => (ph1_st (WP.of h1) s x q p hp (hI.1 q hq)).1
  refine loopUp (A := fun p => AWT G o ad h0 MX9_watchTo Q (upd f 36 x.sc) (wG g (ph1 f g s x p)) e 74 [(0, .ref o), (1, .int r), (2, .int (nI W)), (3, .int (nI K)), (4, .int x.ins), (5, .int x.go), (6, .int x.re), (7, .int (nI s)), (8, .int (nI p))] []) (nP f) ?_ ?_ 0 (by omega)
  rotate_left
  · intro p hp ih
    rw [ph1_s] at ih
    refine vcX9_watchTo_74 _ _ e r _ _ _ _ _ _ _ ?_
    rw [f21]
    refine pk_le (nP f) p (fun z => by omega) (fun _ => ?_)
    have es : wG g (ph1 f g s x p) 32 (nI p).toNatClampNeg = (ph1 f g s x p).st p := by rw [nc p]; rfl
    have ee : wG g (ph1 f g s x p) 33 (nI p).toNatClampNeg = (ph1 f g s x p).en p := by rw [nc p]; rfl
    have eo : ∀ a b, oS (wG g (ph1 f g s x p)) (nI p) a b = oS g (nI p) a b := fun a b => rfl
    rw [es, ee, eo, nI_1, brk_wG f g _ _ p (by omega)]
    generalize ph1 f g s x p = y at ih ⊢
    refine ⟨q5 p hp, fun c1 => ?_, fun c1 => ⟨q5 p hp, q5 p hp, q5 p hp, ?_, pk_in 5 6 (by decide), fun c2 => ?_, fun c2 => ⟨q5 p hp, ?_⟩⟩⟩
    · have : lateW g y s p = false := by unfold lateW; rw [c1, Bool.false_and]
      rw [this, if_neg (by decide)] at ih
      exact ih
    · obtain ⟨v, hv, a1, a2⟩ := inB_n (a := 1) (b := 2) rfl rfl (by decide) (by decide) c1
      rw [hv]
      exact vp_in_nI (by omega) (by decide)
    · have : lateW g y s p = false := by unfold lateW; rw [c1, decide_eq_true c2]; rfl
      rw [this, if_neg (by decide)] at ih
      exact ih
    · have : lateW g y s p = true := by unfold lateW; rw [c1, decide_eq_false c2]; rfl
      rw [this, if_pos rfl] at ih
      exact ih
  refine vcX9_watchTo_74 _ _ e r _ _ _ _ _ _ _ ?_
  rw [f21]
  refine pk_le (nP f) (nP f) (fun _ => ?_) (fun z => by omega)
  have kk := k (nP f)
  have hsl : slotW f g r (nI W) s x = goW f g (nI W) s (begY g (nI W) s (ph1 f g s x (nP f)) (ph2 f g r (nI W) s (ph1 f g s x (nP f)) (nP f))) := by
    unfold slotW begW
    rw [if_pos c]
  have hbeg := hI.beg (WP.of h1) r (nI W) s c
  unfold begW at hbeg
  rw [← kk.2.2.1, ← kk.2.2.2.1, ← kk.2.2.2.2.1, ← kk.2.2.2.2.2]
  have c' : (ph1 f g s x (nP f)).go = -1 := by rw [kk.2.2.2.2.1]; exact c
  generalize ph1 f g s x (nP f) = y at hph hsl hbeg c' ⊢
  -- which is taken
  refine loopUp (A := fun p => AWT G o ad h0 MX9_watchTo Q (upd f 36 y.sc) (wG g y) e 143 [(0, .ref o), (1, .int r), (2, .int (nI W)), (3, .int (nI K)), (4, .int y.ins), (5, .int y.go), (6, .int y.re), (7, .int (nI s)), (8, .int (ph2 f g r (nI W) s y p)), (9, .int (nI p))] []) (nP f) ?_ ?_ 0 (by omega)
  rotate_left
  · intro p hp ih
    have h2 := ph2_st (f := f) (g := g) r (nI W) s y hph.1 p (by omega)
    rw [ph2_s] at ih
    refine vcX9_watchTo_143 _ _ e r _ _ _ _ _ _ _ _ ?_
    rw [f21]
    refine pk_le (nP f) p (fun z => by omega) (fun _ => ?_)
    have em : mayT (upd f 36 y.sc) (wG g y) (nI p) (nI s) (nI W) = mayW f g y s (nI W) p := by
      unfold mayT
      rw [nc p]
      rfl
    have ea : ∀ t, aheadT (upd f 36 y.sc) (wG g y) r (nI p) t (nI s) = aheadT f g r (nI p) t (nI s) := fun t => rfl
    have hpp : ∃ P : Nat, nI p = nI P ∧ PP (upd f 36 y.sc) (wG g y) P := ⟨p, rfl, hPP p hp⟩
    rw [em, ea, nI_1]
    generalize ph2 f g r (nI W) s y p = t at h2 ih ⊢
    refine ⟨hpp, hws s hs, ?_, fun c1 => ?_, fun c1 => ⟨fun c2 => ?_, fun c2 => ⟨hpp, ?_, fun c3 => ?_, fun c3 => ?_⟩⟩⟩
    · rw [nc p]
      show 0 ≤ y.st p
      rcases hph.1 p hp with ⟨j, ej, hj⟩ | z | z
      · rw [ej]
        have := (stK_of (hPP p hp)).2.1
        exact nI_pos' (by omega)
      · rw [z]; decide
      · rw [z]; decide
    · rw [c1, Bool.false_and, if_neg (by decide)] at ih
      exact ih
    · rw [c1, decide_eq_true c2, Bool.true_or, Bool.true_and, if_pos rfl] at ih
      exact ih
    · obtain ⟨q, hq, eq, -⟩ := h2.resolve_left c2
      exact ⟨q, eq, hPP q (by omega)⟩
    · rw [c1, c3, decide_eq_false c2, Bool.false_or, Bool.true_and, if_neg (by decide)] at ih
      exact ih
    · rw [c1, c3, Bool.or_true, Bool.true_and, if_pos rfl] at ih
      exact ih
  have h2 := ph2_st (f := f) (g := g) r (nI W) s y hph.1 (nP f) (Nat.le_refl _)
  refine vcX9_watchTo_143 _ _ e r _ _ _ _ _ _ _ _ ?_
  rw [f21]
  refine pk_le (nP f) (nP f) (fun _ => ?_) (fun z => by omega)
  generalize ph2 f g r (nI W) s y (nP f) = t at h2 hsl hbeg ⊢
  rw [nc s, wG_35, wG_35, wG_35]
  have h3 := h301 _ hbeg hsl
  unfold begY at h3
  refine ⟨fun c1 => ?_, fun c1 => ⟨hws s hs, fun c2 => ⟨hs12 s hs, ?_⟩, fun c2 => ⟨hs12 s hs, ?_⟩⟩⟩
  · obtain ⟨p, hp, ep, j, ej, hj⟩ := h2.resolve_left c1
    obtain ⟨k1, k3, ks⟩ := stK_of (hPP p hp)
    have tn : t.toNatClampNeg = p := by rw [ep]; exact nc p
    have t5 : vp_in t 5 := by rw [ep]; exact q5 p hp
    have t1 : vp_in (23 * t + 1) 138 := by rw [ep]; exact v1 p hp
    rw [if_neg c1] at h3
    refine ⟨t1, fun c2 => ⟨t5, t5, ?_, q0, ?_⟩, fun c2 => ⟨t1, hs12 s hs, ?_⟩⟩
    · rw [tn]
      show vp_in (y.st p) 3
      rw [ej]
      exact vp_in_nI (by omega) (by decide)
    · rw [if_pos (show g 22 (23 * t + 1).toNatClampNeg = y.ins from c2)] at h3
      exact h3
    · rw [if_neg (show ¬ g 22 (23 * t + 1).toNatClampNeg = y.ins from c2)] at h3
      exact h3
  · rw [if_pos c1, if_neg (show ¬ g 9 (12 * nI W + nI s).toNatClampNeg = 4 from c2)] at h3
    exact h3
  · rw [if_pos c1, if_pos (show g 9 (12 * nI W + nI s).toNatClampNeg = 4 from c2)] at h3
    exact h3
