set_option maxRecDepth 100000
theorem gX8_kind {K : gK} {M : XS} {S : Option MS}  {a0 : Nat} {o : Int32} (hf : fX8_kind a0 = some o) : gMet K yX8_kind cX8_kind 1 (some Jvm.ClassFile.FieldType.int) rX8_kind [(.ref a0)] M S (some (.int o)) M S := by
  refine gMet.of pn_X8 (Nat.le_of_ble_eq_true rfl) fun X C E => ?_
  unfold fX8_kind at hf
  show GG K X 1 0 0 M S 0 [(0, .ref a0)] []
  refine GG.iconst C dX8_kind_0 ic_0 ?_
  have hf := Option.some.inj hf
  subst hf
  exact GG.iret C E dX8_kind_1
theorem gX11_kind {K : gK} {M : XS} {S : Option MS}  {a0 : Nat} {o : Int32} (hf : fX11_kind a0 = some o) : gMet K yX11_kind cX11_kind 1 (some Jvm.ClassFile.FieldType.int) rX11_kind [(.ref a0)] M S (some (.int o)) M S := by
  refine gMet.of pn_X11 (Nat.le_of_ble_eq_true rfl) fun X C E => ?_
  unfold fX11_kind at hf
  show GG K X 1 0 0 M S 0 [(0, .ref a0)] []
  refine GG.iconst C dX11_kind_0 ic_1 ?_
  have hf := Option.some.inj hf
  subst hf
  exact GG.iret C E dX11_kind_1
theorem gX10_kind {K : gK} {S : Option MS}  {M : XS} {a0 : Nat} {o : Int32} (hf : fX10_kind M a0 = some o) : gMet K yX10_kind cX10_kind 1 (some Jvm.ClassFile.FieldType.int) rX10_kind [(.ref a0)] M S (some (.int o)) M S := by
  refine gMet.of pn_X10 (Nat.le_of_ble_eq_true rfl) fun X C E => ?_
  unfold fX10_kind at hf
  show GG K X 1 0 0 M S 0 [(0, .ref a0)] []
  refine GG.aload_n C dX10_kind_0 0 rfl ?_
  obtain ⟨c1, hf⟩ := gd_some hf
  refine GG.gx_X10_9 C rfl c1 dX10_kind_1 ?_
  have hf := Option.some.inj hf
  subst hf
  exact GG.iret C E dX10_kind_4
theorem gX9_kind {K : gK} {M : XS} {S : Option MS}  {a0 : Nat} {o : Int32} (hf : fX9_kind a0 = some o) : gMet K yX9_kind cX9_kind 1 (some Jvm.ClassFile.FieldType.int) rX9_kind [(.ref a0)] M S (some (.int o)) M S := by
  refine gMet.of pn_X9 (Nat.le_of_ble_eq_true rfl) fun X C E => ?_
  unfold fX9_kind at hf
  show GG K X 1 0 0 M S 0 [(0, .ref a0)] []
  refine GG.iconst C dX9_kind_0 ic_4 ?_
  have hf := Option.some.inj hf
  subst hf
  exact GG.iret C E dX9_kind_1
theorem gX8_tells {K : gK} {S : Option MS}  {M : XS} {a0 : Nat} {o : Int32} (hf : fX8_tells M a0 = some o) : gMet K yX8_tells cX8_tells 1 (some Jvm.ClassFile.FieldType.int) rX8_tells [(.ref a0)] M S (some (.int o)) M S := by
  refine gMet.of pn_X8 (Nat.le_of_ble_eq_true rfl) fun X C E => ?_
  unfold fX8_tells at hf
  show GG K X 1 0 0 M S 0 [(0, .ref a0)] []
  refine GG.aload_n C dX8_tells_0 0 rfl ?_
  obtain ⟨c1, hf⟩ := gd_some hf
  refine GG.gx_X8_9 C rfl c1 dX8_tells_1 ?_
  have hf := Option.some.inj hf
  subst hf
  exact GG.iret C E dX8_tells_4
theorem gX7_tells {K : gK} {M : XS} {S : Option MS}  {a0 : Nat} {o : Int32} (hf : fX7_tells a0 = some o) : gMet K yX7_tells cX7_tells 1 (some Jvm.ClassFile.FieldType.int) rX7_tells [(.ref a0)] M S (some (.int o)) M S := by
  refine gMet.of pn_X7 (Nat.le_of_ble_eq_true rfl) fun X C E => ?_
  unfold fX7_tells at hf
  show GG K X 1 0 0 M S 0 [(0, .ref a0)] []
  refine GG.iconst C dX7_tells_0 ic_m1 ?_
  have hf := Option.some.inj hf
  subst hf
  exact GG.iret C E dX7_tells_1
theorem gX10_tells {K : gK} {S : Option MS}  {M : XS} {a0 : Nat} {o : Int32} (hf : fX10_tells M a0 = some o) : gMet K yX10_tells cX10_tells 1 (some Jvm.ClassFile.FieldType.int) rX10_tells [(.ref a0)] M S (some (.int o)) M S := by
  refine gMet.of pn_X10 (Nat.le_of_ble_eq_true rfl) fun X C E => ?_
  unfold fX10_tells at hf
  show GG K X 1 0 0 M S 0 [(0, .ref a0)] []
  refine GG.aload_n C dX10_tells_0 0 rfl ?_
  obtain ⟨c1, hf⟩ := gd_some hf
  refine GG.gx_X10_15 C rfl c1 dX10_tells_1 ?_
  have hf := Option.some.inj hf
  subst hf
  exact GG.iret C E dX10_tells_4
theorem gX10_minds {K : gK} {S : Option MS}  {M : XS} {a0 : Nat} {a1 : Int32} {o : Int32} (hf : fX10_minds M a0 a1 = some o) : gMet K yX10_minds cX10_minds 2 (some Jvm.ClassFile.FieldType.boolean) rX10_minds [(.ref a0), (.int a1)] M S (some (.int o)) M S := by
  refine gMet.of pn_X10 (Nat.le_of_ble_eq_true rfl) fun X C E => ?_
  unfold fX10_minds at hf
  show GG K X 2 0 0 M S 0 [(0, .ref a0), (1, .int a1)] []
  refine GG.iload_n C dX10_minds_0 1 rfl ?_
  refine GG.aload_n C dX10_minds_1 0 rfl ?_
  obtain ⟨c1, hf⟩ := gd_some hf
  refine GG.gx_X10_9 C rfl c1 dX10_minds_2 ?_
  refine GG.icmp_eq C (tgt := 13) dX10_minds_5 (by decide) (fun c2 => ?_) (fun c2 => ?_)
  · have hf := if_t hf c2
    refine GG.iconst C dX10_minds_13 ic_1 ?_
    refine GG.goto C (tgt := 18) dX10_minds_14 (by decide) ?_
    have hf := Option.some.inj hf
    subst hf
    exact GG.zret C zb_1 E dX10_minds_18
  · have hf := if_f hf c2
    refine GG.iload_n C dX10_minds_8 1 rfl ?_
    refine GG.iconst C dX10_minds_9 ic_1 ?_
    refine GG.icmp_ne C (tgt := 17) dX10_minds_10 (by decide) (fun c3 => ?_) (fun c3 => ?_)
    · have hf := if_f hf c3
      refine GG.iconst C dX10_minds_17 ic_0 ?_
      have hf := Option.some.inj hf
      subst hf
      exact GG.zret C zb_0 E dX10_minds_18
    · have hf := if_t hf c3
      refine GG.iconst C dX10_minds_13 ic_1 ?_
      refine GG.goto C (tgt := 18) dX10_minds_14 (by decide) ?_
      have hf := Option.some.inj hf
      subst hf
      exact GG.zret C zb_1 E dX10_minds_18
theorem gX11_minds {K : gK} {M : XS} {S : Option MS}  {a0 : Nat} {a1 : Int32} {o : Int32} (hf : fX11_minds a0 a1 = some o) : gMet K yX11_minds cX11_minds 2 (some Jvm.ClassFile.FieldType.boolean) rX11_minds [(.ref a0), (.int a1)] M S (some (.int o)) M S := by
  refine gMet.of pn_X11 (Nat.le_of_ble_eq_true rfl) fun X C E => ?_
  unfold fX11_minds at hf
  show GG K X 2 0 0 M S 0 [(0, .ref a0), (1, .int a1)] []
  refine GG.iload_n C dX11_minds_0 1 rfl ?_
  refine GG.iconst C dX11_minds_1 ic_2 ?_
  refine GG.icmp_eq C (tgt := 10) dX11_minds_2 (by decide) (fun c1 => ?_) (fun c1 => ?_)
  · have hf := if_t hf c1
    refine GG.iconst C dX11_minds_10 ic_1 ?_
    refine GG.goto C (tgt := 15) dX11_minds_11 (by decide) ?_
    have hf := Option.some.inj hf
    subst hf
    exact GG.zret C zb_1 E dX11_minds_15
  · have hf := if_f hf c1
    refine GG.iload_n C dX11_minds_5 1 rfl ?_
    refine GG.iconst C dX11_minds_6 ic_3 ?_
    refine GG.icmp_ne C (tgt := 14) dX11_minds_7 (by decide) (fun c2 => ?_) (fun c2 => ?_)
    · have hf := if_f hf c2
      refine GG.iconst C dX11_minds_14 ic_0 ?_
      have hf := Option.some.inj hf
      subst hf
      exact GG.zret C zb_0 E dX11_minds_15
    · have hf := if_t hf c2
      refine GG.iconst C dX11_minds_10 ic_1 ?_
      refine GG.goto C (tgt := 15) dX11_minds_11 (by decide) ?_
      have hf := Option.some.inj hf
      subst hf
      exact GG.zret C zb_1 E dX11_minds_15
theorem gX7_minds {K : gK} {M : XS} {S : Option MS}  {a0 : Nat} {a1 : Int32} {o : Int32} (hf : fX7_minds a0 a1 = some o) : gMet K yX7_minds cX7_minds 2 (some Jvm.ClassFile.FieldType.boolean) rX7_minds [(.ref a0), (.int a1)] M S (some (.int o)) M S := by
  refine gMet.of pn_X7 (Nat.le_of_ble_eq_true rfl) fun X C E => ?_
  unfold fX7_minds at hf
  show GG K X 2 0 0 M S 0 [(0, .ref a0), (1, .int a1)] []
  refine GG.iconst C dX7_minds_0 ic_0 ?_
  have hf := Option.some.inj hf
  subst hf
  exact GG.zret C zb_0 E dX7_minds_1
section GR11
variable {K : gK} {X : gX} {cc : ByteArray} {nL cs sl_ : Nat} {y0 : MethodName} {ret : Option FieldType} {rm0 : Room} {M : XS} {S : Option MS} {T : MS} {pc : Nat} {lv : List (Nat × Value)} {rest : List Value}
theorem GG.d_X0_212 (C : gC K X cc nL y0 ret rm0) (ho : y0.cls = "SwapBook") {b : Nat} {r : Int32} (h : fD_kind M b = some r) (hR : 2 + 1 ≤ rm0.frames ∧ 8 + (1 + 11) + 60 ≤ rm0.locals) (hc : cs ≤ rm0.cells) (hs : sl_ ≤ rm0.slots) (hW : (rest.map fun v => v.category).sum ≤ 8) (hd : decode cc pc = .ok (.invokevirtual 212, 3)) (kk : GG K X nL cs sl_ M S (pc + 3) lv (.int r :: rest)) : GG K X nL cs sl_ M S pc lv (.ref b :: rest) := by
  unfold fD_kind at h
  by_cases h0 : xc M b = 1
  · rw [if_pos h0] at h
    exact GG.callA C (x := ⟨"SwapBook$Change", "kind", "()I"⟩) (n := 0) (As := []) (fun H h => h.1.recv C (ci := 0) (r := (RX8, TX8, 10)) h0 rfl) (gX8_kind h) (by rw [ho]; exact q1088) q908 (C.2.2.2.2.1 _ q912) q913 q166 q914 (va_Decl.abs (C.gt.2.1 _ q907 rfl)) (by decide +kernel) ⟨Nat.le_trans (Nat.le_of_ble_eq_true rfl) hR.1, Nat.le_trans (Nat.le_of_ble_eq_true rfl) hR.2⟩ ⟨hc, hs⟩ rfl rfl hW hd kk
  · rw [if_neg h0] at h
    by_cases h1 : xc M b = 2
    · rw [if_pos h1] at h
      exact GG.callA C (x := ⟨"SwapBook$Change", "kind", "()I"⟩) (n := 0) (As := []) (fun H h => h.1.recv C (ci := 1) (r := (RX11, TX11, 8)) h1 rfl) (gX11_kind h) (by rw [ho]; exact q1088) q908 (C.2.2.2.2.1 _ q918) q919 q169 q920 (va_Decl.abs (C.gt.2.1 _ q907 rfl)) (by decide +kernel) ⟨Nat.le_trans (Nat.le_of_ble_eq_true rfl) hR.1, Nat.le_trans (Nat.le_of_ble_eq_true rfl) hR.2⟩ ⟨hc, hs⟩ rfl rfl hW hd kk
    · rw [if_neg h1] at h
      by_cases h2 : xc M b = 3
      · rw [if_pos h2] at h
        exact GG.callA C (x := ⟨"SwapBook$Change", "kind", "()I"⟩) (n := 0) (As := []) (fun H h => h.1.recv C (ci := 2) (r := (RX10, TX10, 10)) h2 rfl) (gX10_kind h) (by rw [ho]; exact q1088) q908 (C.2.2.2.2.1 _ q909) q910 q168 q911 (va_Decl.abs (C.gt.2.1 _ q907 rfl)) (by decide +kernel) ⟨Nat.le_trans (Nat.le_of_ble_eq_true rfl) hR.1, Nat.le_trans (Nat.le_of_ble_eq_true rfl) hR.2⟩ ⟨hc, hs⟩ rfl rfl hW hd kk
      · rw [if_neg h2] at h
        by_cases h3 : xc M b = 4
        · rw [if_pos h3] at h
          exact GG.callA C (x := ⟨"SwapBook$Change", "kind", "()I"⟩) (n := 0) (As := []) (fun H h => h.1.recv C (ci := 3) (r := (RX9, TX9, 9)) h3 rfl) (gX9_kind h) (by rw [ho]; exact q1088) q908 (C.2.2.2.2.1 _ q915) q916 q167 q917 (va_Decl.abs (C.gt.2.1 _ q907 rfl)) (by decide +kernel) ⟨Nat.le_trans (Nat.le_of_ble_eq_true rfl) hR.1, Nat.le_trans (Nat.le_of_ble_eq_true rfl) hR.2⟩ ⟨hc, hs⟩ rfl rfl hW hd kk
        · rw [if_neg h3] at h
          cases h
theorem GG.d_X0_228 (C : gC K X cc nL y0 ret rm0) (ho : y0.cls = "SwapBook") {b : Nat} {r : Int32} (h : fD_tells M b = some r) (hR : 2 + 1 ≤ rm0.frames ∧ 8 + (1 + 11) + 60 ≤ rm0.locals) (hc : cs ≤ rm0.cells) (hs : sl_ ≤ rm0.slots) (hW : (rest.map fun v => v.category).sum ≤ 8) (hd : decode cc pc = .ok (.invokevirtual 228, 3)) (kk : GG K X nL cs sl_ M S (pc + 3) lv (.int r :: rest)) : GG K X nL cs sl_ M S pc lv (.ref b :: rest) := by
  unfold fD_tells at h
  by_cases h0 : xc M b = 1
  · rw [if_pos h0] at h
    exact GG.callA C (x := ⟨"SwapBook$Change", "tells", "()I"⟩) (n := 0) (As := []) (fun H h => h.1.recv C (ci := 0) (r := (RX8, TX8, 10)) h0 rfl) (gX8_tells h) (by rw [ho]; exact q1103) q1105 (C.2.2.2.2.1 _ q1109) q1110 q166 q1111 (va_Decl.of (C.2.2.2.2.1 _ q1104) (C.2.2.2.2.1 _ q1114)) (by decide +kernel) ⟨Nat.le_trans (Nat.le_of_ble_eq_true rfl) hR.1, Nat.le_trans (Nat.le_of_ble_eq_true rfl) hR.2⟩ ⟨hc, hs⟩ rfl rfl hW hd kk
  · rw [if_neg h0] at h
    by_cases h1 : xc M b = 2
    · rw [if_pos h1] at h
      exact GG.callA C (x := ⟨"SwapBook$Change", "tells", "()I"⟩) (n := 0) (As := []) (fun H h => h.1.recv C (ci := 1) (r := (RX11, TX11, 8)) h1 rfl) (gX7_tells h) (by rw [ho]; exact q1103) q1105 (C.2.2.2.2.1 _ q1113) q1104 q165 q1114 (va_Decl.of (C.2.2.2.2.1 _ q1104) (C.2.2.2.2.1 _ q1114)) (by decide +kernel) ⟨Nat.le_trans (Nat.le_of_ble_eq_true rfl) hR.1, Nat.le_trans (Nat.le_of_ble_eq_true rfl) hR.2⟩ ⟨hc, hs⟩ rfl rfl hW hd kk
    · rw [if_neg h1] at h
      by_cases h2 : xc M b = 3
      · rw [if_pos h2] at h
        exact GG.callA C (x := ⟨"SwapBook$Change", "tells", "()I"⟩) (n := 0) (As := []) (fun H h => h.1.recv C (ci := 2) (r := (RX10, TX10, 10)) h2 rfl) (gX10_tells h) (by rw [ho]; exact q1103) q1105 (C.2.2.2.2.1 _ q1106) q1107 q168 q1108 (va_Decl.of (C.2.2.2.2.1 _ q1104) (C.2.2.2.2.1 _ q1114)) (by decide +kernel) ⟨Nat.le_trans (Nat.le_of_ble_eq_true rfl) hR.1, Nat.le_trans (Nat.le_of_ble_eq_true rfl) hR.2⟩ ⟨hc, hs⟩ rfl rfl hW hd kk
      · rw [if_neg h2] at h
        by_cases h3 : xc M b = 4
        · rw [if_pos h3] at h
          exact GG.callA C (x := ⟨"SwapBook$Change", "tells", "()I"⟩) (n := 0) (As := []) (fun H h => h.1.recv C (ci := 3) (r := (RX9, TX9, 9)) h3 rfl) (gX7_tells h) (by rw [ho]; exact q1103) q1105 (C.2.2.2.2.1 _ q1112) q1104 q165 q1114 (va_Decl.of (C.2.2.2.2.1 _ q1104) (C.2.2.2.2.1 _ q1114)) (by decide +kernel) ⟨Nat.le_trans (Nat.le_of_ble_eq_true rfl) hR.1, Nat.le_trans (Nat.le_of_ble_eq_true rfl) hR.2⟩ ⟨hc, hs⟩ rfl rfl hW hd kk
        · rw [if_neg h3] at h
          cases h
theorem GG.d_X4_50 (C : gC K X cc nL y0 ret rm0) (ho : y0.cls = "SwapBook$Book") {b : Nat} {r : Int32} (h : fD_kind M b = some r) (hR : 2 + 1 ≤ rm0.frames ∧ 8 + (1 + 11) + 60 ≤ rm0.locals) (hc : cs ≤ rm0.cells) (hs : sl_ ≤ rm0.slots) (hW : (rest.map fun v => v.category).sum ≤ 8) (hd : decode cc pc = .ok (.invokevirtual 50, 3)) (kk : GG K X nL cs sl_ M S (pc + 3) lv (.int r :: rest)) : GG K X nL cs sl_ M S pc lv (.ref b :: rest) := by
  unfold fD_kind at h
  by_cases h0 : xc M b = 1
  · rw [if_pos h0] at h
    exact GG.callA C (x := ⟨"SwapBook$Change", "kind", "()I"⟩) (n := 0) (As := []) (fun H h => h.1.recv C (ci := 0) (r := (RX8, TX8, 10)) h0 rfl) (gX8_kind h) (by rw [ho]; exact q977) q908 (C.2.2.2.2.1 _ q912) q913 q166 q914 (va_Decl.abs (C.gt.2.1 _ q907 rfl)) (by decide +kernel) ⟨Nat.le_trans (Nat.le_of_ble_eq_true rfl) hR.1, Nat.le_trans (Nat.le_of_ble_eq_true rfl) hR.2⟩ ⟨hc, hs⟩ rfl rfl hW hd kk
  · rw [if_neg h0] at h
    by_cases h1 : xc M b = 2
    · rw [if_pos h1] at h
      exact GG.callA C (x := ⟨"SwapBook$Change", "kind", "()I"⟩) (n := 0) (As := []) (fun H h => h.1.recv C (ci := 1) (r := (RX11, TX11, 8)) h1 rfl) (gX11_kind h) (by rw [ho]; exact q977) q908 (C.2.2.2.2.1 _ q918) q919 q169 q920 (va_Decl.abs (C.gt.2.1 _ q907 rfl)) (by decide +kernel) ⟨Nat.le_trans (Nat.le_of_ble_eq_true rfl) hR.1, Nat.le_trans (Nat.le_of_ble_eq_true rfl) hR.2⟩ ⟨hc, hs⟩ rfl rfl hW hd kk
    · rw [if_neg h1] at h
      by_cases h2 : xc M b = 3
      · rw [if_pos h2] at h
        exact GG.callA C (x := ⟨"SwapBook$Change", "kind", "()I"⟩) (n := 0) (As := []) (fun H h => h.1.recv C (ci := 2) (r := (RX10, TX10, 10)) h2 rfl) (gX10_kind h) (by rw [ho]; exact q977) q908 (C.2.2.2.2.1 _ q909) q910 q168 q911 (va_Decl.abs (C.gt.2.1 _ q907 rfl)) (by decide +kernel) ⟨Nat.le_trans (Nat.le_of_ble_eq_true rfl) hR.1, Nat.le_trans (Nat.le_of_ble_eq_true rfl) hR.2⟩ ⟨hc, hs⟩ rfl rfl hW hd kk
      · rw [if_neg h2] at h
        by_cases h3 : xc M b = 4
        · rw [if_pos h3] at h
          exact GG.callA C (x := ⟨"SwapBook$Change", "kind", "()I"⟩) (n := 0) (As := []) (fun H h => h.1.recv C (ci := 3) (r := (RX9, TX9, 9)) h3 rfl) (gX9_kind h) (by rw [ho]; exact q977) q908 (C.2.2.2.2.1 _ q915) q916 q167 q917 (va_Decl.abs (C.gt.2.1 _ q907 rfl)) (by decide +kernel) ⟨Nat.le_trans (Nat.le_of_ble_eq_true rfl) hR.1, Nat.le_trans (Nat.le_of_ble_eq_true rfl) hR.2⟩ ⟨hc, hs⟩ rfl rfl hW hd kk
        · rw [if_neg h3] at h
          cases h
theorem GG.d_X4_54 (C : gC K X cc nL y0 ret rm0) (ho : y0.cls = "SwapBook$Book") {b : Nat} {a1 : Int32} {r : Int32} (h : fD_minds M b a1 = some r) (hR : 2 + 1 ≤ rm0.frames ∧ 8 + (2 + 11) + 60 ≤ rm0.locals) (hc : cs ≤ rm0.cells) (hs : sl_ ≤ rm0.slots) (hW : (rest.map fun v => v.category).sum ≤ 8) (hd : decode cc pc = .ok (.invokevirtual 54, 3)) (kk : GG K X nL cs sl_ M S (pc + 3) lv (.int r :: rest)) : GG K X nL cs sl_ M S pc lv (.int a1 :: .ref b :: rest) := by
  unfold fD_minds at h
  by_cases h0 : xc M b = 1
  · rw [if_pos h0] at h
    exact GG.callA C (x := ⟨"SwapBook$Change", "minds", "(I)Z"⟩) (n := 1) (As := [.int a1]) (fun H h => h.1.recv C (ci := 0) (r := (RX8, TX8, 10)) h0 rfl) (gX7_minds h) (by rw [ho]; exact q978) q980 (C.2.2.2.2.1 _ q984) q979 q165 q989 (va_Decl.of (C.2.2.2.2.1 _ q979) (C.2.2.2.2.1 _ q989)) (by decide +kernel) ⟨Nat.le_trans (Nat.le_of_ble_eq_true rfl) hR.1, Nat.le_trans (Nat.le_of_ble_eq_true rfl) hR.2⟩ ⟨hc, hs⟩ rfl rfl hW hd kk
  · rw [if_neg h0] at h
    by_cases h1 : xc M b = 2
    · rw [if_pos h1] at h
      exact GG.callA C (x := ⟨"SwapBook$Change", "minds", "(I)Z"⟩) (n := 1) (As := [.int a1]) (fun H h => h.1.recv C (ci := 1) (r := (RX11, TX11, 8)) h1 rfl) (gX11_minds h) (by rw [ho]; exact q978) q980 (C.2.2.2.2.1 _ q986) q987 q169 q988 (va_Decl.of (C.2.2.2.2.1 _ q979) (C.2.2.2.2.1 _ q989)) (by decide +kernel) ⟨Nat.le_trans (Nat.le_of_ble_eq_true rfl) hR.1, Nat.le_trans (Nat.le_of_ble_eq_true rfl) hR.2⟩ ⟨hc, hs⟩ rfl rfl hW hd kk
    · rw [if_neg h1] at h
      by_cases h2 : xc M b = 3
      · rw [if_pos h2] at h
        exact GG.callA C (x := ⟨"SwapBook$Change", "minds", "(I)Z"⟩) (n := 1) (As := [.int a1]) (fun H h => h.1.recv C (ci := 2) (r := (RX10, TX10, 10)) h2 rfl) (gX10_minds h) (by rw [ho]; exact q978) q980 (C.2.2.2.2.1 _ q981) q982 q168 q983 (va_Decl.of (C.2.2.2.2.1 _ q979) (C.2.2.2.2.1 _ q989)) (by decide +kernel) ⟨Nat.le_trans (Nat.le_of_ble_eq_true rfl) hR.1, Nat.le_trans (Nat.le_of_ble_eq_true rfl) hR.2⟩ ⟨hc, hs⟩ rfl rfl hW hd kk
      · rw [if_neg h2] at h
        by_cases h3 : xc M b = 4
        · rw [if_pos h3] at h
          exact GG.callA C (x := ⟨"SwapBook$Change", "minds", "(I)Z"⟩) (n := 1) (As := [.int a1]) (fun H h => h.1.recv C (ci := 3) (r := (RX9, TX9, 9)) h3 rfl) (gX7_minds h) (by rw [ho]; exact q978) q980 (C.2.2.2.2.1 _ q985) q979 q165 q989 (va_Decl.of (C.2.2.2.2.1 _ q979) (C.2.2.2.2.1 _ q989)) (by decide +kernel) ⟨Nat.le_trans (Nat.le_of_ble_eq_true rfl) hR.1, Nat.le_trans (Nat.le_of_ble_eq_true rfl) hR.2⟩ ⟨hc, hs⟩ rfl rfl hW hd kk
        · rw [if_neg h3] at h
          cases h
theorem GG.d_X4_88 (C : gC K X cc nL y0 ret rm0) (ho : y0.cls = "SwapBook$Book") {b : Nat} {r : Int32} (h : fD_tells M b = some r) (hR : 2 + 1 ≤ rm0.frames ∧ 8 + (1 + 11) + 60 ≤ rm0.locals) (hc : cs ≤ rm0.cells) (hs : sl_ ≤ rm0.slots) (hW : (rest.map fun v => v.category).sum ≤ 8) (hd : decode cc pc = .ok (.invokevirtual 88, 3)) (kk : GG K X nL cs sl_ M S (pc + 3) lv (.int r :: rest)) : GG K X nL cs sl_ M S pc lv (.ref b :: rest) := by
  unfold fD_tells at h
  by_cases h0 : xc M b = 1
  · rw [if_pos h0] at h
    exact GG.callA C (x := ⟨"SwapBook$Change", "tells", "()I"⟩) (n := 0) (As := []) (fun H h => h.1.recv C (ci := 0) (r := (RX8, TX8, 10)) h0 rfl) (gX8_tells h) (by rw [ho]; exact q1202) q1105 (C.2.2.2.2.1 _ q1109) q1110 q166 q1111 (va_Decl.of (C.2.2.2.2.1 _ q1104) (C.2.2.2.2.1 _ q1114)) (by decide +kernel) ⟨Nat.le_trans (Nat.le_of_ble_eq_true rfl) hR.1, Nat.le_trans (Nat.le_of_ble_eq_true rfl) hR.2⟩ ⟨hc, hs⟩ rfl rfl hW hd kk
  · rw [if_neg h0] at h
    by_cases h1 : xc M b = 2
    · rw [if_pos h1] at h
      exact GG.callA C (x := ⟨"SwapBook$Change", "tells", "()I"⟩) (n := 0) (As := []) (fun H h => h.1.recv C (ci := 1) (r := (RX11, TX11, 8)) h1 rfl) (gX7_tells h) (by rw [ho]; exact q1202) q1105 (C.2.2.2.2.1 _ q1113) q1104 q165 q1114 (va_Decl.of (C.2.2.2.2.1 _ q1104) (C.2.2.2.2.1 _ q1114)) (by decide +kernel) ⟨Nat.le_trans (Nat.le_of_ble_eq_true rfl) hR.1, Nat.le_trans (Nat.le_of_ble_eq_true rfl) hR.2⟩ ⟨hc, hs⟩ rfl rfl hW hd kk
    · rw [if_neg h1] at h
      by_cases h2 : xc M b = 3
      · rw [if_pos h2] at h
        exact GG.callA C (x := ⟨"SwapBook$Change", "tells", "()I"⟩) (n := 0) (As := []) (fun H h => h.1.recv C (ci := 2) (r := (RX10, TX10, 10)) h2 rfl) (gX10_tells h) (by rw [ho]; exact q1202) q1105 (C.2.2.2.2.1 _ q1106) q1107 q168 q1108 (va_Decl.of (C.2.2.2.2.1 _ q1104) (C.2.2.2.2.1 _ q1114)) (by decide +kernel) ⟨Nat.le_trans (Nat.le_of_ble_eq_true rfl) hR.1, Nat.le_trans (Nat.le_of_ble_eq_true rfl) hR.2⟩ ⟨hc, hs⟩ rfl rfl hW hd kk
      · rw [if_neg h2] at h
        by_cases h3 : xc M b = 4
        · rw [if_pos h3] at h
          exact GG.callA C (x := ⟨"SwapBook$Change", "tells", "()I"⟩) (n := 0) (As := []) (fun H h => h.1.recv C (ci := 3) (r := (RX9, TX9, 9)) h3 rfl) (gX7_tells h) (by rw [ho]; exact q1202) q1105 (C.2.2.2.2.1 _ q1112) q1104 q165 q1114 (va_Decl.of (C.2.2.2.2.1 _ q1104) (C.2.2.2.2.1 _ q1114)) (by decide +kernel) ⟨Nat.le_trans (Nat.le_of_ble_eq_true rfl) hR.1, Nat.le_trans (Nat.le_of_ble_eq_true rfl) hR.2⟩ ⟨hc, hs⟩ rfl rfl hW hd kk
        · rw [if_neg h3] at h
          cases h
theorem GG.d_X2_134 (C : gC K X cc nL y0 ret rm0) (ho : y0.cls = "SwapBook$Reader") {b : Nat} {r : Int32} (h : fD_kind M b = some r) (hR : 2 + 1 ≤ rm0.frames ∧ 8 + (1 + 11) + 60 ≤ rm0.locals) (hc : cs ≤ rm0.cells) (hs : sl_ ≤ rm0.slots) (hW : (rest.map fun v => v.category).sum ≤ 8) (hd : decode cc pc = .ok (.invokevirtual 134, 3)) (kk : GG K X nL cs sl_ M S (pc + 3) lv (.int r :: rest)) : GG K X nL cs sl_ M S pc lv (.ref b :: rest) := by
  unfold fD_kind at h
  by_cases h0 : xc M b = 1
  · rw [if_pos h0] at h
    exact GG.callA C (x := ⟨"SwapBook$Change", "kind", "()I"⟩) (n := 0) (As := []) (fun H h => h.1.recv C (ci := 0) (r := (RX8, TX8, 10)) h0 rfl) (gX8_kind h) (by rw [ho]; exact q906) q908 (C.2.2.2.2.1 _ q912) q913 q166 q914 (va_Decl.abs (C.gt.2.1 _ q907 rfl)) (by decide +kernel) ⟨Nat.le_trans (Nat.le_of_ble_eq_true rfl) hR.1, Nat.le_trans (Nat.le_of_ble_eq_true rfl) hR.2⟩ ⟨hc, hs⟩ rfl rfl hW hd kk
  · rw [if_neg h0] at h
    by_cases h1 : xc M b = 2
    · rw [if_pos h1] at h
      exact GG.callA C (x := ⟨"SwapBook$Change", "kind", "()I"⟩) (n := 0) (As := []) (fun H h => h.1.recv C (ci := 1) (r := (RX11, TX11, 8)) h1 rfl) (gX11_kind h) (by rw [ho]; exact q906) q908 (C.2.2.2.2.1 _ q918) q919 q169 q920 (va_Decl.abs (C.gt.2.1 _ q907 rfl)) (by decide +kernel) ⟨Nat.le_trans (Nat.le_of_ble_eq_true rfl) hR.1, Nat.le_trans (Nat.le_of_ble_eq_true rfl) hR.2⟩ ⟨hc, hs⟩ rfl rfl hW hd kk
    · rw [if_neg h1] at h
      by_cases h2 : xc M b = 3
      · rw [if_pos h2] at h
        exact GG.callA C (x := ⟨"SwapBook$Change", "kind", "()I"⟩) (n := 0) (As := []) (fun H h => h.1.recv C (ci := 2) (r := (RX10, TX10, 10)) h2 rfl) (gX10_kind h) (by rw [ho]; exact q906) q908 (C.2.2.2.2.1 _ q909) q910 q168 q911 (va_Decl.abs (C.gt.2.1 _ q907 rfl)) (by decide +kernel) ⟨Nat.le_trans (Nat.le_of_ble_eq_true rfl) hR.1, Nat.le_trans (Nat.le_of_ble_eq_true rfl) hR.2⟩ ⟨hc, hs⟩ rfl rfl hW hd kk
      · rw [if_neg h2] at h
        by_cases h3 : xc M b = 4
        · rw [if_pos h3] at h
          exact GG.callA C (x := ⟨"SwapBook$Change", "kind", "()I"⟩) (n := 0) (As := []) (fun H h => h.1.recv C (ci := 3) (r := (RX9, TX9, 9)) h3 rfl) (gX9_kind h) (by rw [ho]; exact q906) q908 (C.2.2.2.2.1 _ q915) q916 q167 q917 (va_Decl.abs (C.gt.2.1 _ q907 rfl)) (by decide +kernel) ⟨Nat.le_trans (Nat.le_of_ble_eq_true rfl) hR.1, Nat.le_trans (Nat.le_of_ble_eq_true rfl) hR.2⟩ ⟨hc, hs⟩ rfl rfl hW hd kk
        · rw [if_neg h3] at h
          cases h
end GR11
