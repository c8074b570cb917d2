set_option maxRecDepth 100000
theorem gX6_isChange {K : gK} {M : XS}  {S : MS} {a1 : Int32} {o : Int32} (hf : fX6_isChange S a1 = some o) : gMet K yX6_isChange cX6_isChange 2 (some Jvm.ClassFile.FieldType.boolean) rX6_isChange [(.ref (kh K)), (.int a1)] M (some S) (some (.int o)) M (some S) := by
  refine gMet.of pn_X6 (Nat.le_of_ble_eq_true rfl) fun X C E => ?_
  unfold fX6_isChange at hf
  show GG K X 2 0 0 M (some S) 0 [(0, .ref (kh K)), (1, .int a1)] []
  refine GG.iload_n C dX6_isChange_0 1 rfl ?_
  refine GG.i2l C dX6_isChange_1 ?_
  refine GG.lconst C dX6_isChange_2 lc_0 ?_
  refine GG.aload_n C dX6_isChange_3 0 rfl ?_
  refine GG.gm20 C rfl dX6_isChange_4 ?_
  refine GG.iconst C dX6_isChange_7 ic_0 ?_
  obtain ⟨v1, hv1, hf⟩ := obd_some hf
  refine GG.mi C rfl hv1 dX6_isChange_8 ?_
  refine GG.iconst C dX6_isChange_9 ic_1 ?_
  refine GG.isub C dX6_isChange_10 ?_
  refine GG.i2l C dX6_isChange_11 ?_
  obtain ⟨v2, hv2, hf⟩ := obd_some hf
  refine GG.c_X6_110 C rfl (gX6_isIn hv2) ⟨Nat.le_of_ble_eq_true rfl, Nat.le_of_ble_eq_true rfl⟩ ⟨Nat.le_of_ble_eq_true rfl, Nat.le_of_ble_eq_true rfl⟩ (Nat.le_of_ble_eq_true rfl) dX6_isChange_12 ?_
  obtain ⟨c3, hf⟩ := gd_some hf
  have hf := Option.some.inj hf
  subst hf
  exact GG.zret C c3 E dX6_isChange_15
theorem gX6_hasIn {K : gK} {M : XS} {S : Option MS}  {a0 : Int32} {a1 : Int32} {o : Int32} (hf : fX6_hasIn a0 a1 = some o) : gMet K yX6_hasIn cX6_hasIn 2 (some Jvm.ClassFile.FieldType.boolean) rX6_hasIn [(.int a0), (.int a1)] M S (some (.int o)) M S := by
  refine gMet.of pn_X6 (Nat.le_of_ble_eq_true rfl) fun X C E => ?_
  unfold fX6_hasIn at hf
  show GG K X 2 0 0 M S 0 [(0, .int a0), (1, .int a1)] []
  refine GG.iload_n C dX6_hasIn_0 0 rfl ?_
  refine GG.iload_n C dX6_hasIn_1 1 rfl ?_
  refine GG.ishr C dX6_hasIn_2 ?_
  refine GG.iconst C dX6_hasIn_3 ic_1 ?_
  refine GG.iand C dX6_hasIn_4 ?_
  refine GG.iconst C dX6_hasIn_5 ic_1 ?_
  refine GG.icmp_ne C (tgt := 13) dX6_hasIn_6 (by decide) (fun c1 => ?_) (fun c1 => ?_)
  · have hf := if_f hf c1
    refine GG.iconst C dX6_hasIn_13 ic_0 ?_
    have hf := Option.some.inj hf
    subst hf
    exact GG.zret C zb_0 E dX6_hasIn_14
  · have hf := if_t hf c1
    refine GG.iconst C dX6_hasIn_9 ic_1 ?_
    refine GG.goto C (tgt := 14) dX6_hasIn_10 (by decide) ?_
    have hf := Option.some.inj hf
    subst hf
    exact GG.zret C zb_1 E dX6_hasIn_14
theorem gX6_levelOf_4 {K : gK} {X : gX} {rec : MS → Int32 → Option Int32} {d : Nat} {M : XS} {S : MS} (C : gC K X cX6_levelOf 4 yX6_levelOf (some Jvm.ClassFile.FieldType.int) (rX6_levelOf (d + 1))) (hrec : ∀ {S : MS} {a1 : Int32} {o : Int32}, rec S a1 = some o → gMet K yX6_levelOf cX6_levelOf 4 (some Jvm.ClassFile.FieldType.int) (rX6_levelOf d) [.ref (kh K), .int a1] M (some S) (some (.int o)) M (some S))  {o : Int32} (E : gE K X (some (.int o)) M (some S) (rX6_levelOf (d + 1)).cells (rX6_levelOf (d + 1)).slots)   :
    ∀ (n : Nat) (a1 : Int32) (a2 : Int32) (a3 : Int32), fX6_levelOf_4 rec S n a1 a2 a3 = some o → GG K X 4 0 0 M (some S) 4 [(0, .ref (kh K)), (1, .int a1), (2, .int a2), (3, .int a3)] [] := by
  intro n
  induction n with
  | zero => intro a1 a2 a3 hf; cases hf
  | succ n ih =>
    intro a1 a2 a3 hf
    rw [fX6_levelOf_4] at hf
    refine GG.iload_n C dX6_levelOf_4 3 rfl ?_
    refine GG.iload_n C dX6_levelOf_5 1 rfl ?_
    refine GG.icmp_ge C (tgt := 43) dX6_levelOf_6 (by decide) (fun c1 => ?_) (fun c1 => ?_)
    · have hf := if_t hf c1
      refine GG.iload_n C dX6_levelOf_43 2 rfl ?_
      have hf := Option.some.inj hf
      subst hf
      exact GG.iret C E dX6_levelOf_44
    · have hf := if_f hf c1
      refine GG.aload_n C dX6_levelOf_9 0 rfl ?_
      refine GG.gm20 C rfl dX6_levelOf_10 ?_
      refine GG.bipush C dX6_levelOf_13 bp_82 ?_
      refine GG.iload_n C dX6_levelOf_15 1 rfl ?_
      refine GG.iadd C dX6_levelOf_16 ?_
      obtain ⟨v2, hv2, hf⟩ := obd_some hf
      refine GG.mi C rfl hv2 dX6_levelOf_17 ?_
      refine GG.iload_n C dX6_levelOf_18 3 rfl ?_
      obtain ⟨v3, hv3, hf⟩ := obd_some hf
      refine GG.c_X6_302 C rfl (gX6_hasIn hv3) ⟨by first | exact Nat.le_of_ble_eq_true rfl | (dsimp only [rX6_levelOf, rX6_hasIn]; omega), by first | exact Nat.le_of_ble_eq_true rfl | (dsimp only [rX6_levelOf, rX6_hasIn]; omega)⟩ ⟨by first | exact Nat.le_of_ble_eq_true rfl | (dsimp only [rX6_levelOf, rX6_hasIn]; omega), by first | exact Nat.le_of_ble_eq_true rfl | (dsimp only [rX6_levelOf, rX6_hasIn]; omega)⟩ (Nat.le_of_ble_eq_true rfl) dX6_levelOf_19 ?_
      refine GG.if_eq C (tgt := 37) dX6_levelOf_22 (by decide) (fun c4 => ?_) (fun c4 => ?_)
      · have hf := if_t hf c4
        refine GG.iinc C (v := (a3 + (nI 1))) (lv' := [(3, .int (a3 + (nI 1))), (0, .ref (kh K)), (1, .int a1), (2, .int a2)]) dX6_levelOf_37 3 rfl (congrArg (a3 + ·) ic_1) (by decide) rfl ?_
        refine GG.goto C (tgt := 4) dX6_levelOf_40 (by decide) ?_
        refine GG.sub [1, 2, 3, 0] rfl ?_
        exact ih _ _ _ hf
      · have hf := if_f hf c4
        refine GG.iload_n C dX6_levelOf_25 2 rfl ?_
        refine GG.aload_n C dX6_levelOf_26 0 rfl ?_
        refine GG.iload_n C dX6_levelOf_27 3 rfl ?_
        obtain ⟨v5, hv5, hf⟩ := obd_some hf
        refine GG.c_X6_305 C rfl (hrec hv5) ⟨by first | exact Nat.le_of_ble_eq_true rfl | (dsimp only [rX6_levelOf, rX6_levelOf]; omega), by first | exact Nat.le_of_ble_eq_true rfl | (dsimp only [rX6_levelOf, rX6_levelOf]; omega)⟩ ⟨by first | exact Nat.le_of_ble_eq_true rfl | (dsimp only [rX6_levelOf, rX6_levelOf]; omega), by first | exact Nat.le_of_ble_eq_true rfl | (dsimp only [rX6_levelOf, rX6_levelOf]; omega)⟩ (Nat.le_of_ble_eq_true rfl) dX6_levelOf_28 ?_
        refine GG.iconst C dX6_levelOf_31 ic_1 ?_
        refine GG.iadd C dX6_levelOf_32 ?_
        refine GG.mmax C q1868 (Nat.le_of_ble_eq_true rfl) (Nat.le_of_ble_eq_true rfl) (Nat.le_of_ble_eq_true rfl) (Nat.le_of_ble_eq_true rfl) dX6_levelOf_33 ?_
        refine GG.topi fun x6 hx6 => ?_
        have hf := ltb_s hx6 hf
        refine GG.istore_n C (lv' := [(2, .int x6), (0, .ref (kh K)), (1, .int a1), (3, .int a3)]) dX6_levelOf_36 (by decide) rfl ?_
        refine GG.iinc C (v := (a3 + (nI 1))) (lv' := [(3, .int (a3 + (nI 1))), (2, .int x6), (0, .ref (kh K)), (1, .int a1)]) dX6_levelOf_37 3 rfl (congrArg (a3 + ·) ic_1) (by decide) rfl ?_
        refine GG.goto C (tgt := 4) dX6_levelOf_40 (by decide) ?_
        refine GG.sub [2, 3, 1, 0] rfl ?_
        exact ih _ _ _ hf
theorem gX6_levelOf_b {K : gK} {rec : MS → Int32 → Option Int32} {d : Nat} {M : XS} (hrec : ∀ {S : MS} {a1 : Int32} {o : Int32}, rec S a1 = some o → gMet K yX6_levelOf cX6_levelOf 4 (some Jvm.ClassFile.FieldType.int) (rX6_levelOf d) [.ref (kh K), .int a1] M (some S) (some (.int o)) M (some S)) {S : MS} {a1 : Int32} {o : Int32} (hf : fX6_levelOf_b rec S a1 = some o) : gMet K yX6_levelOf cX6_levelOf 4 (some Jvm.ClassFile.FieldType.int) (rX6_levelOf (d + 1)) [(.ref (kh K)), (.int a1)] M (some S) (some (.int o)) M (some S) := by
  refine gMet.of pn_X6 (Nat.le_of_ble_eq_true rfl) fun X C E => ?_
  unfold fX6_levelOf_b at hf
  show GG K X 4 0 0 M (some S) 0 [(0, .ref (kh K)), (1, .int a1)] []
  refine GG.iconst C dX6_levelOf_0 ic_0 ?_
  refine GG.istore_n C (lv' := [(2, .int (nI 0)), (0, .ref (kh K)), (1, .int a1)]) dX6_levelOf_1 (by decide) rfl ?_
  refine GG.iconst C dX6_levelOf_2 ic_0 ?_
  refine GG.istore_n C (lv' := [(3, .int (nI 0)), (2, .int (nI 0)), (0, .ref (kh K)), (1, .int a1)]) dX6_levelOf_3 (by decide) rfl ?_
  refine GG.sub [2, 3, 1, 0] rfl ?_
  exact gX6_levelOf_4 C hrec E  FU _ _ _ hf
theorem gX6_levelOf {K : gK} {M : XS} : ∀ (d : Nat) {S : MS} {a1 : Int32} {o : Int32}, fX6_levelOf d S a1 = some o → gMet K yX6_levelOf cX6_levelOf 4 (some Jvm.ClassFile.FieldType.int) (rX6_levelOf d) [(.ref (kh K)), (.int a1)] M (some S) (some (.int o)) M (some S) := by
  intro d
  induction d with
  | zero => intro S a1 o hf; cases hf
  | succ d ih =>
    intro S a1 o hf
    rw [fX6_levelOf] at hf
    exact gX6_levelOf_b ih hf
theorem gX6_change {K : gK} {M : XS}  {S : MS} {a1 : Int32} {a2 : Int32} {o : (Int32 × MS)} (hf : fX6_change S a1 a2 = some o) : gMet K yX6_change cX6_change 4 (some Jvm.ClassFile.FieldType.int) rX6_change [(.ref (kh K)), (.int a1), (.int a2)] M (some S) (some (.int o.1)) M (some o.2) := by
  refine gMet.of pn_X6 (Nat.le_of_ble_eq_true rfl) fun X C E => ?_
  unfold fX6_change at hf
  show GG K X 4 0 0 M (some S) 0 [(0, .ref (kh K)), (1, .int a1), (2, .int a2)] []
  refine GG.aload_n C dX6_change_0 0 rfl ?_
  refine GG.iconst C dX6_change_1 ic_0 ?_
  refine GG.pm1 C rfl dX6_change_2 ?_
  refine GG.topS fun S1 hS1 => ?_
  have hf := ltb_s hS1 hf
  refine GG.aload_n C dX6_change_5 0 rfl ?_
  refine GG.iconst C dX6_change_6 ic_0 ?_
  refine GG.pm0 C rfl dX6_change_7 ?_
  refine GG.topS fun S2 hS2 => ?_
  have hf := ltb_s hS2 hf
  refine GG.aload_n C dX6_change_10 0 rfl ?_
  refine GG.iload_n C dX6_change_11 1 rfl ?_
  obtain ⟨v3, hv3, hf⟩ := obd_some hf
  refine GG.c_X6_311 C rfl (gX6_isChange hv3) ⟨Nat.le_of_ble_eq_true rfl, Nat.le_of_ble_eq_true rfl⟩ ⟨Nat.le_of_ble_eq_true rfl, Nat.le_of_ble_eq_true rfl⟩ (Nat.le_of_ble_eq_true rfl) dX6_change_12 ?_
  refine GG.if_ne C (tgt := 24) dX6_change_15 (by decide) (fun c4 => ?_) (fun c4 => ?_)
  · have hf := if_f hf c4
    refine GG.aload_n C dX6_change_24 0 rfl ?_
    refine GG.iconst C dX6_change_25 ic_0 ?_
    refine GG.iload_n C dX6_change_26 1 rfl ?_
    obtain ⟨v5, hv5, hf⟩ := obd_some hf
    refine GG.c_X6_239 C rfl (gX6_kind hv5) ⟨Nat.le_of_ble_eq_true rfl, Nat.le_of_ble_eq_true rfl⟩ ⟨Nat.le_of_ble_eq_true rfl, Nat.le_of_ble_eq_true rfl⟩ (Nat.le_of_ble_eq_true rfl) dX6_change_27 ?_
    refine GG.istore_n C (lv' := [(3, .int v5), (0, .ref (kh K)), (1, .int a1), (2, .int a2)]) dX6_change_30 (by decide) rfl ?_
    refine GG.iload_n C dX6_change_31 3 rfl ?_
    by_cases c6 : a2 = (nI 0)
    · have hf := if_t hf c6
      refine GG.tin C (k := 0) (off := 36) (tgt := 68) dX6_change_32 (by rw [c6]; rfl) (by decide) (by decide) rfl (by decide) ?_
      refine GG.iload_n C dX6_change_68 0 rfl ?_
      have hf := Option.some.inj hf
      subst hf
      exact GG.iret C E dX6_change_69
    · have hf := if_f hf c6
      by_cases c7 : a2 = (nI 1)
      · have hf := if_t hf c7
        refine GG.tin C (k := 1) (off := 38) (tgt := 70) dX6_change_32 (by rw [c7]; rfl) (by decide) (by decide) rfl (by decide) ?_
        refine GG.iload_n C dX6_change_70 0 rfl ?_
        refine GG.iconst C dX6_change_71 ic_2 ?_
        refine GG.icmp_ne C (tgt := 87) dX6_change_72 (by decide) (fun c8 => ?_) (fun c8 => ?_)
        · have hf := if_f hf c8
          refine GG.iload_n C dX6_change_87 0 rfl ?_
          refine GG.if_eq C (tgt := 96) dX6_change_88 (by decide) (fun c9 => ?_) (fun c9 => ?_)
          · have hf := if_t hf c9
            refine GG.aload_n C dX6_change_96 1 rfl ?_
            refine GG.gm20 C rfl dX6_change_97 ?_
            refine GG.bipush C dX6_change_100 bp_18 ?_
            refine GG.iload_n C dX6_change_102 2 rfl ?_
            refine GG.iadd C dX6_change_103 ?_
            obtain ⟨v10, hv10, hf⟩ := obd_some hf
            refine GG.mi C rfl hv10 dX6_change_104 ?_
            refine GG.goto C (tgt := 109) dX6_change_105 (by decide) ?_
            have hf := Option.some.inj hf
            subst hf
            exact GG.iret C E dX6_change_109
          · have hf := if_f hf c9
            refine GG.iload_n C dX6_change_91 0 rfl ?_
            refine GG.iconst C dX6_change_92 ic_3 ?_
            refine GG.icmp_ne C (tgt := 108) dX6_change_93 (by decide) (fun c11 => ?_) (fun c11 => ?_)
            · have hf := if_f hf c11
              refine GG.iconst C dX6_change_108 ic_m1 ?_
              have hf := Option.some.inj hf
              subst hf
              exact GG.iret C E dX6_change_109
            · have hf := if_t hf c11
              refine GG.aload_n C dX6_change_96 1 rfl ?_
              refine GG.gm20 C rfl dX6_change_97 ?_
              refine GG.bipush C dX6_change_100 bp_18 ?_
              refine GG.iload_n C dX6_change_102 2 rfl ?_
              refine GG.iadd C dX6_change_103 ?_
              obtain ⟨v12, hv12, hf⟩ := obd_some hf
              refine GG.mi C rfl hv12 dX6_change_104 ?_
              refine GG.goto C (tgt := 109) dX6_change_105 (by decide) ?_
              have hf := Option.some.inj hf
              subst hf
              exact GG.iret C E dX6_change_109
        · have hf := if_t hf c8
          refine GG.aload_n C dX6_change_75 1 rfl ?_
          refine GG.gm20 C rfl dX6_change_76 ?_
          refine GG.bipush C dX6_change_79 bp_34 ?_
          refine GG.iload_n C dX6_change_81 2 rfl ?_
          refine GG.iadd C dX6_change_82 ?_
          obtain ⟨v13, hv13, hf⟩ := obd_some hf
          refine GG.mi C rfl hv13 dX6_change_83 ?_
          refine GG.goto C (tgt := 109) dX6_change_84 (by decide) ?_
          have hf := Option.some.inj hf
          subst hf
          exact GG.iret C E dX6_change_109
      · have hf := if_f hf c7
        by_cases c14 : a2 = (nI 2)
        · have hf := if_t hf c14
          refine GG.tin C (k := 2) (off := 78) (tgt := 110) dX6_change_32 (by rw [c14]; rfl) (by decide) (by decide) rfl (by decide) ?_
          refine GG.iload_n C dX6_change_110 0 rfl ?_
          refine GG.if_ne C (tgt := 126) dX6_change_111 (by decide) (fun c15 => ?_) (fun c15 => ?_)
          · have hf := if_f hf c15
            refine GG.aload_n C dX6_change_126 1 rfl ?_
            refine GG.bipush C dX6_change_127 bp_8 ?_
            obtain ⟨p16, hp16, hf⟩ := obd_some hf
            refine GG.c_X6_299 C rfl (gX6_refuse hp16) ⟨Nat.le_of_ble_eq_true rfl, Nat.le_of_ble_eq_true rfl⟩ ⟨Nat.le_of_ble_eq_true rfl, Nat.le_of_ble_eq_true rfl⟩ (Nat.le_of_ble_eq_true rfl) dX6_change_129 ?_
            have hf := Option.some.inj hf
            subst hf
            exact GG.iret C E dX6_change_132
          · have hf := if_t hf c15
            refine GG.aload_n C dX6_change_114 1 rfl ?_
            refine GG.gm20 C rfl dX6_change_115 ?_
            refine GG.bipush C dX6_change_118 bp_34 ?_
            refine GG.iload_n C dX6_change_120 2 rfl ?_
            refine GG.iadd C dX6_change_121 ?_
            obtain ⟨v17, hv17, hf⟩ := obd_some hf
            refine GG.mi C rfl hv17 dX6_change_122 ?_
            refine GG.goto C (tgt := 132) dX6_change_123 (by decide) ?_
            have hf := Option.some.inj hf
            subst hf
            exact GG.iret C E dX6_change_132
        · have hf := if_f hf c14
          by_cases c18 : a2 = (nI 3)
          · have hf := if_t hf c18
            refine GG.tin C (k := 3) (off := 101) (tgt := 133) dX6_change_32 (by rw [c18]; rfl) (by decide) (by decide) rfl (by decide) ?_
            refine GG.aload_n C dX6_change_133 1 rfl ?_
            refine GG.iconst C dX6_change_134 ic_0 ?_
            refine GG.iload_n C dX6_change_135 2 rfl ?_
            obtain ⟨v19, hv19, hf⟩ := obd_some hf
            refine GG.c_X6_246 C rfl (gX6_thingOf hv19) ⟨Nat.le_of_ble_eq_true rfl, Nat.le_of_ble_eq_true rfl⟩ ⟨Nat.le_of_ble_eq_true rfl, Nat.le_of_ble_eq_true rfl⟩ (Nat.le_of_ble_eq_true rfl) dX6_change_136 ?_
            have hf := Option.some.inj hf
            subst hf
            exact GG.iret C E dX6_change_139
          · have hf := if_f hf c18
            by_cases c20 : a2 = (nI 4)
            · have hf := if_t hf c20
              refine GG.tin C (k := 4) (off := 108) (tgt := 140) dX6_change_32 (by rw [c20]; rfl) (by decide) (by decide) rfl (by decide) ?_
              refine GG.aload_n C dX6_change_140 1 rfl ?_
              refine GG.iload_n C dX6_change_141 2 rfl ?_
              obtain ⟨v21, hv21, hf⟩ := obd_some hf
              refine GG.c_X6_305 C rfl (gX6_levelOf DU hv21) ⟨Nat.le_of_ble_eq_true rfl, Nat.le_of_ble_eq_true rfl⟩ ⟨Nat.le_of_ble_eq_true rfl, Nat.le_of_ble_eq_true rfl⟩ (Nat.le_of_ble_eq_true rfl) dX6_change_142 ?_
              have hf := Option.some.inj hf
              subst hf
              exact GG.iret C E dX6_change_145
            · have hf := if_f hf c20
              refine GG.tout C (tgt := 146) dX6_change_32 (by have qc6 := lv_neT c6 (a := 0) rfl; have qc7 := lv_neT c7 (a := 1) rfl; have qc14 := lv_neT c14 (a := 2) rfl; have qc18 := lv_neT c18 (a := 3) rfl; have qc20 := lv_neT c20 (a := 4) rfl; omega) (by decide) ?_
              refine GG.aload_n C dX6_change_146 1 rfl ?_
              refine GG.iconst C dX6_change_147 ic_5 ?_
              obtain ⟨p22, hp22, hf⟩ := obd_some hf
              refine GG.c_X6_299 C rfl (gX6_refuse hp22) ⟨Nat.le_of_ble_eq_true rfl, Nat.le_of_ble_eq_true rfl⟩ ⟨Nat.le_of_ble_eq_true rfl, Nat.le_of_ble_eq_true rfl⟩ (Nat.le_of_ble_eq_true rfl) dX6_change_148 ?_
              have hf := Option.some.inj hf
              subst hf
              exact GG.iret C E dX6_change_151
  · have hf := if_t hf c4
    refine GG.aload_n C dX6_change_18 0 rfl ?_
    refine GG.iconst C dX6_change_19 ic_2 ?_
    obtain ⟨p23, hp23, hf⟩ := obd_some hf
    refine GG.c_X6_299 C rfl (gX6_refuse hp23) ⟨Nat.le_of_ble_eq_true rfl, Nat.le_of_ble_eq_true rfl⟩ ⟨Nat.le_of_ble_eq_true rfl, Nat.le_of_ble_eq_true rfl⟩ (Nat.le_of_ble_eq_true rfl) dX6_change_20 ?_
    have hf := Option.some.inj hf
    subst hf
    exact GG.iret C E dX6_change_23
theorem gX6_hangers_4 {K : gK} {X : gX} {M : XS} {S : MS} (C : gC K X cX6_hangers 4 yX6_hangers (some Jvm.ClassFile.FieldType.int) rX6_hangers)  {o : Int32} (E : gE K X (some (.int o)) M (some S) rX6_hangers.cells rX6_hangers.slots)   :
    ∀ (n : Nat) (a1 : Int32) (a2 : Int32) (a3 : Int32), fX6_hangers_4 S n a1 a2 a3 = some o → GG K X 4 0 0 M (some S) 4 [(0, .ref (kh K)), (1, .int a1), (2, .int a2), (3, .int a3)] [] := by
  intro n
  induction n with
  | zero => intro a1 a2 a3 hf; cases hf
  | succ n ih =>
    intro a1 a2 a3 hf
    rw [fX6_hangers_4] at hf
    refine GG.iload_n C dX6_hangers_4 3 rfl ?_
    refine GG.aload_n C dX6_hangers_5 0 rfl ?_
    refine GG.gm20 C rfl dX6_hangers_6 ?_
    refine GG.iconst C dX6_hangers_9 ic_0 ?_
    obtain ⟨v1, hv1, hf⟩ := obd_some hf
    refine GG.mi C rfl hv1 dX6_hangers_10 ?_
    refine GG.icmp_ge C (tgt := 43) dX6_hangers_11 (by decide) (fun c2 => ?_) (fun c2 => ?_)
    · have hf := if_t hf c2
      refine GG.iload_n C dX6_hangers_43 2 rfl ?_
      have hf := Option.some.inj hf
      subst hf
      exact GG.iret C E dX6_hangers_44
    · have hf := if_f hf c2
      refine GG.iload_n C dX6_hangers_14 2 rfl ?_
      refine GG.aload_n C dX6_hangers_15 0 rfl ?_
      refine GG.iconst C dX6_hangers_16 ic_0 ?_
      refine GG.iload_n C dX6_hangers_17 3 rfl ?_
      obtain ⟨v3, hv3, hf⟩ := obd_some hf
      refine GG.c_X6_249 C rfl (gX6_hangsOn hv3) ⟨Nat.le_of_ble_eq_true rfl, Nat.le_of_ble_eq_true rfl⟩ ⟨Nat.le_of_ble_eq_true rfl, Nat.le_of_ble_eq_true rfl⟩ (Nat.le_of_ble_eq_true rfl) dX6_hangers_18 ?_
      refine GG.iload_n C dX6_hangers_21 1 rfl ?_
      obtain ⟨v4, hv4, hf⟩ := obd_some hf
      refine GG.c_X6_302 C rfl (gX6_hasIn hv4) ⟨Nat.le_of_ble_eq_true rfl, Nat.le_of_ble_eq_true rfl⟩ ⟨Nat.le_of_ble_eq_true rfl, Nat.le_of_ble_eq_true rfl⟩ (Nat.le_of_ble_eq_true rfl) dX6_hangers_22 ?_
      refine GG.if_eq C (tgt := 34) dX6_hangers_25 (by decide) (fun c5 => ?_) (fun c5 => ?_)
      · have hf := if_t hf c5
        refine GG.iconst C dX6_hangers_34 ic_0 ?_
        refine GG.ior C dX6_hangers_35 ?_
        refine GG.topi fun x6 hx6 => ?_
        have hf := ltb_s hx6 hf
        refine GG.istore_n C (lv' := [(2, .int x6), (0, .ref (kh K)), (1, .int a1), (3, .int a3)]) dX6_hangers_36 (by decide) rfl ?_
        refine GG.iinc C (v := (a3 + (nI 1))) (lv' := [(3, .int (a3 + (nI 1))), (2, .int x6), (0, .ref (kh K)), (1, .int a1)]) dX6_hangers_37 3 rfl (congrArg (a3 + ·) ic_1) (by decide) rfl ?_
        refine GG.goto C (tgt := 4) dX6_hangers_40 (by decide) ?_
        refine GG.sub [2, 3, 1, 0] rfl ?_
        exact ih _ _ _ hf
      · have hf := if_f hf c5
        refine GG.iconst C dX6_hangers_28 ic_1 ?_
        refine GG.iload_n C dX6_hangers_29 3 rfl ?_
        refine GG.ishl C dX6_hangers_30 ?_
        refine GG.goto C (tgt := 35) dX6_hangers_31 (by decide) ?_
        refine GG.ior C dX6_hangers_35 ?_
        refine GG.topi fun x7 hx7 => ?_
        have hf := ltb_s hx7 hf
        refine GG.istore_n C (lv' := [(2, .int x7), (0, .ref (kh K)), (1, .int a1), (3, .int a3)]) dX6_hangers_36 (by decide) rfl ?_
        refine GG.iinc C (v := (a3 + (nI 1))) (lv' := [(3, .int (a3 + (nI 1))), (2, .int x7), (0, .ref (kh K)), (1, .int a1)]) dX6_hangers_37 3 rfl (congrArg (a3 + ·) ic_1) (by decide) rfl ?_
        refine GG.goto C (tgt := 4) dX6_hangers_40 (by decide) ?_
        refine GG.sub [2, 3, 1, 0] rfl ?_
        exact ih _ _ _ hf
theorem gX6_hangers {K : gK} {M : XS}  {S : MS} {a1 : Int32} {o : Int32} (hf : fX6_hangers S a1 = some o) : gMet K yX6_hangers cX6_hangers 4 (some Jvm.ClassFile.FieldType.int) rX6_hangers [(.ref (kh K)), (.int a1)] M (some S) (some (.int o)) M (some S) := by
  refine gMet.of pn_X6 (Nat.le_of_ble_eq_true rfl) fun X C E => ?_
  unfold fX6_hangers at hf
  show GG K X 4 0 0 M (some S) 0 [(0, .ref (kh K)), (1, .int a1)] []
  refine GG.iconst C dX6_hangers_0 ic_0 ?_
  refine GG.istore_n C (lv' := [(2, .int (nI 0)), (0, .ref (kh K)), (1, .int a1)]) dX6_hangers_1 (by decide) rfl ?_
  refine GG.iconst C dX6_hangers_2 ic_0 ?_
  refine GG.istore_n C (lv' := [(3, .int (nI 0)), (2, .int (nI 0)), (0, .ref (kh K)), (1, .int a1)]) dX6_hangers_3 (by decide) rfl ?_
  refine GG.sub [2, 3, 1, 0] rfl ?_
  exact gX6_hangers_4 C E  FU _ _ _ hf
theorem gX6_hangs {K : gK} {M : XS}  {S : MS} {a1 : Int32} {a2 : Int32} {o : (Int32 × MS)} (hf : fX6_hangs S a1 a2 = some o) : gMet K yX6_hangs cX6_hangs 3 (some Jvm.ClassFile.FieldType.int) rX6_hangs [(.ref (kh K)), (.int a1), (.int a2)] M (some S) (some (.int o.1)) M (some o.2) := by
  refine gMet.of pn_X6 (Nat.le_of_ble_eq_true rfl) fun X C E => ?_
  unfold fX6_hangs at hf
  show GG K X 3 0 0 M (some S) 0 [(0, .ref (kh K)), (1, .int a1), (2, .int a2)] []
  refine GG.aload_n C dX6_hangs_0 0 rfl ?_
  refine GG.iconst C dX6_hangs_1 ic_0 ?_
  refine GG.pm1 C rfl dX6_hangs_2 ?_
  refine GG.topS fun S1 hS1 => ?_
  have hf := ltb_s hS1 hf
  refine GG.aload_n C dX6_hangs_5 0 rfl ?_
  refine GG.iconst C dX6_hangs_6 ic_0 ?_
  refine GG.pm0 C rfl dX6_hangs_7 ?_
  refine GG.topS fun S2 hS2 => ?_
  have hf := ltb_s hS2 hf
  refine GG.aload_n C dX6_hangs_10 0 rfl ?_
  refine GG.iload_n C dX6_hangs_11 1 rfl ?_
  obtain ⟨v3, hv3, hf⟩ := obd_some hf
  refine GG.c_X6_311 C rfl (gX6_isChange hv3) ⟨Nat.le_of_ble_eq_true rfl, Nat.le_of_ble_eq_true rfl⟩ ⟨Nat.le_of_ble_eq_true rfl, Nat.le_of_ble_eq_true rfl⟩ (Nat.le_of_ble_eq_true rfl) dX6_hangs_12 ?_
  refine GG.if_ne C (tgt := 24) dX6_hangs_15 (by decide) (fun c4 => ?_) (fun c4 => ?_)
  · have hf := if_f hf c4
    refine GG.iload_n C dX6_hangs_24 2 rfl ?_
    refine GG.i2l C dX6_hangs_25 ?_
    refine GG.lconst C dX6_hangs_26 lc_0 ?_
    refine GG.ldc2 C (v := (lN 2)) q1873 dX6_hangs_27 ?_
    obtain ⟨v5, hv5, hf⟩ := obd_some hf
    refine GG.c_X6_110 C rfl (gX6_isIn hv5) ⟨Nat.le_of_ble_eq_true rfl, Nat.le_of_ble_eq_true rfl⟩ ⟨Nat.le_of_ble_eq_true rfl, Nat.le_of_ble_eq_true rfl⟩ (Nat.le_of_ble_eq_true rfl) dX6_hangs_30 ?_
    refine GG.if_ne C (tgt := 42) dX6_hangs_33 (by decide) (fun c6 => ?_) (fun c6 => ?_)
    · have hf := if_f hf c6
      refine GG.iload_n C dX6_hangs_42 2 rfl ?_
      refine GG.if_ne C (tgt := 58) dX6_hangs_43 (by decide) (fun c7 => ?_) (fun c7 => ?_)
      · have hf := if_f hf c7
        refine GG.iload_n C dX6_hangs_58 2 rfl ?_
        refine GG.iconst C dX6_hangs_59 ic_1 ?_
        refine GG.icmp_ne C (tgt := 72) dX6_hangs_60 (by decide) (fun c8 => ?_) (fun c8 => ?_)
        · have hf := if_f hf c8
          refine GG.aload_n C dX6_hangs_72 0 rfl ?_
          refine GG.iload_n C dX6_hangs_73 1 rfl ?_
          obtain ⟨v9, hv9, hf⟩ := obd_some hf
          refine GG.c_X6_316 C rfl (gX6_hangers hv9) ⟨Nat.le_of_ble_eq_true rfl, Nat.le_of_ble_eq_true rfl⟩ ⟨Nat.le_of_ble_eq_true rfl, Nat.le_of_ble_eq_true rfl⟩ (Nat.le_of_ble_eq_true rfl) dX6_hangs_74 ?_
          have hf := Option.some.inj hf
          subst hf
          exact GG.iret C E dX6_hangs_77
        · have hf := if_t hf c8
          refine GG.aload_n C dX6_hangs_63 0 rfl ?_
          refine GG.iconst C dX6_hangs_64 ic_0 ?_
          refine GG.iload_n C dX6_hangs_65 1 rfl ?_
          obtain ⟨v10, hv10, hf⟩ := obd_some hf
          refine GG.c_X6_249 C rfl (gX6_hangsOn hv10) ⟨Nat.le_of_ble_eq_true rfl, Nat.le_of_ble_eq_true rfl⟩ ⟨Nat.le_of_ble_eq_true rfl, Nat.le_of_ble_eq_true rfl⟩ (Nat.le_of_ble_eq_true rfl) dX6_hangs_66 ?_
          refine GG.goto C (tgt := 77) dX6_hangs_69 (by decide) ?_
          have hf := Option.some.inj hf
          subst hf
          exact GG.iret C E dX6_hangs_77
      · have hf := if_t hf c7
        refine GG.aload_n C dX6_hangs_46 0 rfl ?_
        refine GG.gm20 C rfl dX6_hangs_47 ?_
        refine GG.bipush C dX6_hangs_50 bp_82 ?_
        refine GG.iload_n C dX6_hangs_52 1 rfl ?_
        refine GG.iadd C dX6_hangs_53 ?_
        obtain ⟨v11, hv11, hf⟩ := obd_some hf
        refine GG.mi C rfl hv11 dX6_hangs_54 ?_
        refine GG.goto C (tgt := 77) dX6_hangs_55 (by decide) ?_
        have hf := Option.some.inj hf
        subst hf
        exact GG.iret C E dX6_hangs_77
    · have hf := if_t hf c6
      refine GG.aload_n C dX6_hangs_36 0 rfl ?_
      refine GG.iconst C dX6_hangs_37 ic_5 ?_
      obtain ⟨p12, hp12, hf⟩ := obd_some hf
      refine GG.c_X6_299 C rfl (gX6_refuse hp12) ⟨Nat.le_of_ble_eq_true rfl, Nat.le_of_ble_eq_true rfl⟩ ⟨Nat.le_of_ble_eq_true rfl, Nat.le_of_ble_eq_true rfl⟩ (Nat.le_of_ble_eq_true rfl) dX6_hangs_38 ?_
      have hf := Option.some.inj hf
      subst hf
      exact GG.iret C E dX6_hangs_41
  · have hf := if_t hf c4
    refine GG.aload_n C dX6_hangs_18 0 rfl ?_
    refine GG.iconst C dX6_hangs_19 ic_2 ?_
    obtain ⟨p13, hp13, hf⟩ := obd_some hf
    refine GG.c_X6_299 C rfl (gX6_refuse hp13) ⟨Nat.le_of_ble_eq_true rfl, Nat.le_of_ble_eq_true rfl⟩ ⟨Nat.le_of_ble_eq_true rfl, Nat.le_of_ble_eq_true rfl⟩ (Nat.le_of_ble_eq_true rfl) dX6_hangs_20 ?_
    have hf := Option.some.inj hf
    subst hf
    exact GG.iret C E dX6_hangs_23
theorem gX6_isSet {K : gK} {M : XS}  {S : MS} {a1 : Int32} {o : Int32} (hf : fX6_isSet S a1 = some o) : gMet K yX6_isSet cX6_isSet 2 (some Jvm.ClassFile.FieldType.boolean) rX6_isSet [(.ref (kh K)), (.int a1)] M (some S) (some (.int o)) M (some S) := by
  refine gMet.of pn_X6 (Nat.le_of_ble_eq_true rfl) fun X C E => ?_
  unfold fX6_isSet at hf
  show GG K X 2 0 0 M (some S) 0 [(0, .ref (kh K)), (1, .int a1)] []
  refine GG.iload_n C dX6_isSet_0 1 rfl ?_
  refine GG.i2l C dX6_isSet_1 ?_
  refine GG.lconst C dX6_isSet_2 lc_0 ?_
  refine GG.iconst C dX6_isSet_3 ic_1 ?_
  refine GG.aload_n C dX6_isSet_4 0 rfl ?_
  refine GG.gm20 C rfl dX6_isSet_5 ?_
  refine GG.iconst C dX6_isSet_8 ic_0 ?_
  obtain ⟨v1, hv1, hf⟩ := obd_some hf
  refine GG.mi C rfl hv1 dX6_isSet_9 ?_
  refine GG.ishl C dX6_isSet_10 ?_
  refine GG.iconst C dX6_isSet_11 ic_1 ?_
  refine GG.isub C dX6_isSet_12 ?_
  refine GG.i2l C dX6_isSet_13 ?_
  obtain ⟨v2, hv2, hf⟩ := obd_some hf
  refine GG.c_X6_110 C rfl (gX6_isIn hv2) ⟨Nat.le_of_ble_eq_true rfl, Nat.le_of_ble_eq_true rfl⟩ ⟨Nat.le_of_ble_eq_true rfl, Nat.le_of_ble_eq_true rfl⟩ (Nat.le_of_ble_eq_true rfl) dX6_isSet_14 ?_
  obtain ⟨c3, hf⟩ := gd_some hf
  have hf := Option.some.inj hf
  subst hf
  exact GG.zret C c3 E dX6_isSet_17
theorem gX6_lackOf_4 {K : gK} {X : gX} {M : XS} {S : MS} (C : gC K X cX6_lackOf 4 yX6_lackOf (some Jvm.ClassFile.FieldType.int) rX6_lackOf)  {o : Int32} (E : gE K X (some (.int o)) M (some S) rX6_lackOf.cells rX6_lackOf.slots)   :
    ∀ (n : Nat) (a1 : Int32) (a2 : Int32) (a3 : Int32), fX6_lackOf_4 S n a1 a2 a3 = some o → GG K X 4 0 0 M (some S) 4 [(0, .ref (kh K)), (1, .int a1), (2, .int a2), (3, .int a3)] [] := by
  intro n
  induction n with
  | zero => intro a1 a2 a3 hf; cases hf
  | succ n ih =>
    intro a1 a2 a3 hf
    rw [fX6_lackOf_4] at hf
    refine GG.iload_n C dX6_lackOf_4 3 rfl ?_
    refine GG.aload_n C dX6_lackOf_5 0 rfl ?_
    refine GG.gm20 C rfl dX6_lackOf_6 ?_
    refine GG.iconst C dX6_lackOf_9 ic_0 ?_
    obtain ⟨v1, hv1, hf⟩ := obd_some hf
    refine GG.mi C rfl hv1 dX6_lackOf_10 ?_
    refine GG.icmp_ge C (tgt := 41) dX6_lackOf_11 (by decide) (fun c2 => ?_) (fun c2 => ?_)
    · have hf := if_t hf c2
      refine GG.iload_n C dX6_lackOf_41 2 rfl ?_
      refine GG.iload_n C dX6_lackOf_42 1 rfl ?_
      refine GG.iconst C dX6_lackOf_43 ic_m1 ?_
      refine GG.ixor C dX6_lackOf_44 ?_
      refine GG.iand C dX6_lackOf_45 ?_
      have hf := Option.some.inj hf
      subst hf
      exact GG.iret C E dX6_lackOf_46
    · have hf := if_f hf c2
      refine GG.iload_n C dX6_lackOf_14 2 rfl ?_
      refine GG.iload_n C dX6_lackOf_15 1 rfl ?_
      refine GG.iload_n C dX6_lackOf_16 3 rfl ?_
      obtain ⟨v3, hv3, hf⟩ := obd_some hf
      refine GG.c_X6_302 C rfl (gX6_hasIn hv3) ⟨Nat.le_of_ble_eq_true rfl, Nat.le_of_ble_eq_true rfl⟩ ⟨Nat.le_of_ble_eq_true rfl, Nat.le_of_ble_eq_true rfl⟩ (Nat.le_of_ble_eq_true rfl) dX6_lackOf_17 ?_
      refine GG.if_eq C (tgt := 32) dX6_lackOf_20 (by decide) (fun c4 => ?_) (fun c4 => ?_)
      · have hf := if_t hf c4
        refine GG.iconst C dX6_lackOf_32 ic_0 ?_
        refine GG.ior C dX6_lackOf_33 ?_
        refine GG.topi fun x5 hx5 => ?_
        have hf := ltb_s hx5 hf
        refine GG.istore_n C (lv' := [(2, .int x5), (0, .ref (kh K)), (1, .int a1), (3, .int a3)]) dX6_lackOf_34 (by decide) rfl ?_
        refine GG.iinc C (v := (a3 + (nI 1))) (lv' := [(3, .int (a3 + (nI 1))), (2, .int x5), (0, .ref (kh K)), (1, .int a1)]) dX6_lackOf_35 3 rfl (congrArg (a3 + ·) ic_1) (by decide) rfl ?_
        refine GG.goto C (tgt := 4) dX6_lackOf_38 (by decide) ?_
        refine GG.sub [2, 3, 1, 0] rfl ?_
        exact ih _ _ _ hf
      · have hf := if_f hf c4
        refine GG.aload_n C dX6_lackOf_23 0 rfl ?_
        refine GG.iconst C dX6_lackOf_24 ic_0 ?_
        refine GG.iload_n C dX6_lackOf_25 3 rfl ?_
        obtain ⟨v6, hv6, hf⟩ := obd_some hf
        refine GG.c_X6_249 C rfl (gX6_hangsOn hv6) ⟨Nat.le_of_ble_eq_true rfl, Nat.le_of_ble_eq_true rfl⟩ ⟨Nat.le_of_ble_eq_true rfl, Nat.le_of_ble_eq_true rfl⟩ (Nat.le_of_ble_eq_true rfl) dX6_lackOf_26 ?_
        refine GG.goto C (tgt := 33) dX6_lackOf_29 (by decide) ?_
        refine GG.ior C dX6_lackOf_33 ?_
        refine GG.topi fun x7 hx7 => ?_
        have hf := ltb_s hx7 hf
        refine GG.istore_n C (lv' := [(2, .int x7), (0, .ref (kh K)), (1, .int a1), (3, .int a3)]) dX6_lackOf_34 (by decide) rfl ?_
        refine GG.iinc C (v := (a3 + (nI 1))) (lv' := [(3, .int (a3 + (nI 1))), (2, .int x7), (0, .ref (kh K)), (1, .int a1)]) dX6_lackOf_35 3 rfl (congrArg (a3 + ·) ic_1) (by decide) rfl ?_
        refine GG.goto C (tgt := 4) dX6_lackOf_38 (by decide) ?_
        refine GG.sub [2, 3, 1, 0] rfl ?_
        exact ih _ _ _ hf
theorem gX6_lackOf {K : gK} {M : XS}  {S : MS} {a1 : Int32} {o : Int32} (hf : fX6_lackOf S a1 = some o) : gMet K yX6_lackOf cX6_lackOf 4 (some Jvm.ClassFile.FieldType.int) rX6_lackOf [(.ref (kh K)), (.int a1)] M (some S) (some (.int o)) M (some S) := by
  refine gMet.of pn_X6 (Nat.le_of_ble_eq_true rfl) fun X C E => ?_
  unfold fX6_lackOf at hf
  show GG K X 4 0 0 M (some S) 0 [(0, .ref (kh K)), (1, .int a1)] []
  refine GG.iconst C dX6_lackOf_0 ic_0 ?_
  refine GG.istore_n C (lv' := [(2, .int (nI 0)), (0, .ref (kh K)), (1, .int a1)]) dX6_lackOf_1 (by decide) rfl ?_
  refine GG.iconst C dX6_lackOf_2 ic_0 ?_
  refine GG.istore_n C (lv' := [(3, .int (nI 0)), (2, .int (nI 0)), (0, .ref (kh K)), (1, .int a1)]) dX6_lackOf_3 (by decide) rfl ?_
  refine GG.sub [2, 3, 1, 0] rfl ?_
  exact gX6_lackOf_4 C E  FU _ _ _ hf
theorem gX6_holds {K : gK} {M : XS}  {S : MS} {a1 : Int32} {o : (Int32 × MS)} (hf : fX6_holds S a1 = some o) : gMet K yX6_holds cX6_holds 2 (some Jvm.ClassFile.FieldType.int) rX6_holds [(.ref (kh K)), (.int a1)] M (some S) (some (.int o.1)) M (some o.2) := by
  refine gMet.of pn_X6 (Nat.le_of_ble_eq_true rfl) fun X C E => ?_
  unfold fX6_holds at hf
  show GG K X 2 0 0 M (some S) 0 [(0, .ref (kh K)), (1, .int a1)] []
  refine GG.aload_n C dX6_holds_0 0 rfl ?_
  refine GG.iconst C dX6_holds_1 ic_0 ?_
  refine GG.pm1 C rfl dX6_holds_2 ?_
  refine GG.topS fun S1 hS1 => ?_
  have hf := ltb_s hS1 hf
  refine GG.aload_n C dX6_holds_5 0 rfl ?_
  refine GG.iconst C dX6_holds_6 ic_0 ?_
  refine GG.pm0 C rfl dX6_holds_7 ?_
  refine GG.topS fun S2 hS2 => ?_
  have hf := ltb_s hS2 hf
  refine GG.aload_n C dX6_holds_10 0 rfl ?_
  refine GG.iload_n C dX6_holds_11 1 rfl ?_
  obtain ⟨v3, hv3, hf⟩ := obd_some hf
  refine GG.c_X6_319 C rfl (gX6_isSet hv3) ⟨Nat.le_of_ble_eq_true rfl, Nat.le_of_ble_eq_true rfl⟩ ⟨Nat.le_of_ble_eq_true rfl, Nat.le_of_ble_eq_true rfl⟩ (Nat.le_of_ble_eq_true rfl) dX6_holds_12 ?_
  refine GG.if_ne C (tgt := 24) dX6_holds_15 (by decide) (fun c4 => ?_) (fun c4 => ?_)
  · have hf := if_f hf c4
    refine GG.aload_n C dX6_holds_24 0 rfl ?_
    refine GG.iload_n C dX6_holds_25 1 rfl ?_
    obtain ⟨v5, hv5, hf⟩ := obd_some hf
    refine GG.c_X6_322 C rfl (gX6_lackOf hv5) ⟨Nat.le_of_ble_eq_true rfl, Nat.le_of_ble_eq_true rfl⟩ ⟨Nat.le_of_ble_eq_true rfl, Nat.le_of_ble_eq_true rfl⟩ (Nat.le_of_ble_eq_true rfl) dX6_holds_26 ?_
    refine GG.if_ne C (tgt := 36) dX6_holds_29 (by decide) (fun c6 => ?_) (fun c6 => ?_)
    · have hf := if_f hf c6
      refine GG.iconst C dX6_holds_36 ic_0 ?_
      have hf := Option.some.inj hf
      subst hf
      exact GG.iret C E dX6_holds_37
    · have hf := if_t hf c6
      refine GG.iconst C dX6_holds_32 ic_1 ?_
      refine GG.goto C (tgt := 37) dX6_holds_33 (by decide) ?_
      have hf := Option.some.inj hf
      subst hf
      exact GG.iret C E dX6_holds_37
  · have hf := if_t hf c4
    refine GG.aload_n C dX6_holds_18 0 rfl ?_
    refine GG.iconst C dX6_holds_19 ic_2 ?_
    obtain ⟨p7, hp7, hf⟩ := obd_some hf
    refine GG.c_X6_299 C rfl (gX6_refuse hp7) ⟨Nat.le_of_ble_eq_true rfl, Nat.le_of_ble_eq_true rfl⟩ ⟨Nat.le_of_ble_eq_true rfl, Nat.le_of_ble_eq_true rfl⟩ (Nat.le_of_ble_eq_true rfl) dX6_holds_20 ?_
    have hf := Option.some.inj hf
    subst hf
    exact GG.iret C E dX6_holds_23
theorem gX6_lacks {K : gK} {M : XS}  {S : MS} {a1 : Int32} {o : (Int32 × MS)} (hf : fX6_lacks S a1 = some o) : gMet K yX6_lacks cX6_lacks 2 (some Jvm.ClassFile.FieldType.int) rX6_lacks [(.ref (kh K)), (.int a1)] M (some S) (some (.int o.1)) M (some o.2) := by
  refine gMet.of pn_X6 (Nat.le_of_ble_eq_true rfl) fun X C E => ?_
  unfold fX6_lacks at hf
  show GG K X 2 0 0 M (some S) 0 [(0, .ref (kh K)), (1, .int a1)] []
  refine GG.aload_n C dX6_lacks_0 0 rfl ?_
  refine GG.iconst C dX6_lacks_1 ic_0 ?_
  refine GG.pm1 C rfl dX6_lacks_2 ?_
  refine GG.topS fun S1 hS1 => ?_
  have hf := ltb_s hS1 hf
  refine GG.aload_n C dX6_lacks_5 0 rfl ?_
  refine GG.iconst C dX6_lacks_6 ic_0 ?_
  refine GG.pm0 C rfl dX6_lacks_7 ?_
  refine GG.topS fun S2 hS2 => ?_
  have hf := ltb_s hS2 hf
  refine GG.aload_n C dX6_lacks_10 0 rfl ?_
  refine GG.iload_n C dX6_lacks_11 1 rfl ?_
  obtain ⟨v3, hv3, hf⟩ := obd_some hf
  refine GG.c_X6_319 C rfl (gX6_isSet hv3) ⟨Nat.le_of_ble_eq_true rfl, Nat.le_of_ble_eq_true rfl⟩ ⟨Nat.le_of_ble_eq_true rfl, Nat.le_of_ble_eq_true rfl⟩ (Nat.le_of_ble_eq_true rfl) dX6_lacks_12 ?_
  refine GG.if_eq C (tgt := 26) dX6_lacks_15 (by decide) (fun c4 => ?_) (fun c4 => ?_)
  · have hf := if_t hf c4
    refine GG.aload_n C dX6_lacks_26 0 rfl ?_
    refine GG.iconst C dX6_lacks_27 ic_2 ?_
    obtain ⟨p5, hp5, hf⟩ := obd_some hf
    refine GG.c_X6_299 C rfl (gX6_refuse hp5) ⟨Nat.le_of_ble_eq_true rfl, Nat.le_of_ble_eq_true rfl⟩ ⟨Nat.le_of_ble_eq_true rfl, Nat.le_of_ble_eq_true rfl⟩ (Nat.le_of_ble_eq_true rfl) dX6_lacks_28 ?_
    have hf := Option.some.inj hf
    subst hf
    exact GG.iret C E dX6_lacks_31
  · have hf := if_f hf c4
    refine GG.aload_n C dX6_lacks_18 0 rfl ?_
    refine GG.iload_n C dX6_lacks_19 1 rfl ?_
    obtain ⟨v6, hv6, hf⟩ := obd_some hf
    refine GG.c_X6_322 C rfl (gX6_lackOf hv6) ⟨Nat.le_of_ble_eq_true rfl, Nat.le_of_ble_eq_true rfl⟩ ⟨Nat.le_of_ble_eq_true rfl, Nat.le_of_ble_eq_true rfl⟩ (Nat.le_of_ble_eq_true rfl) dX6_lacks_20 ?_
    refine GG.goto C (tgt := 31) dX6_lacks_23 (by decide) ?_
    have hf := Option.some.inj hf
    subst hf
    exact GG.iret C E dX6_lacks_31
theorem gX6_out {K : gK} {M : XS}  {S : MS} {a1 : Int32} {a2 : Int32} {o : (Int32 × MS)} (hf : fX6_out S a1 a2 = some o) : gMet K yX6_out cX6_out 3 (some Jvm.ClassFile.FieldType.int) rX6_out [(.ref (kh K)), (.int a1), (.int a2)] M (some S) (some (.int o.1)) M (some o.2) := by
  refine gMet.of pn_X6 (Nat.le_of_ble_eq_true rfl) fun X C E => ?_
  unfold fX6_out at hf
  show GG K X 3 0 0 M (some S) 0 [(0, .ref (kh K)), (1, .int a1), (2, .int a2)] []
  refine GG.aload_n C dX6_out_0 0 rfl ?_
  refine GG.iconst C dX6_out_1 ic_0 ?_
  refine GG.pm1 C rfl dX6_out_2 ?_
  refine GG.topS fun S1 hS1 => ?_
  have hf := ltb_s hS1 hf
  refine GG.aload_n C dX6_out_5 0 rfl ?_
  refine GG.iconst C dX6_out_6 ic_0 ?_
  refine GG.pm0 C rfl dX6_out_7 ?_
  refine GG.topS fun S2 hS2 => ?_
  have hf := ltb_s hS2 hf
  refine GG.aload_n C dX6_out_10 0 rfl ?_
  refine GG.iload_n C dX6_out_11 1 rfl ?_
  obtain ⟨v3, hv3, hf⟩ := obd_some hf
  refine GG.c_X6_319 C rfl (gX6_isSet hv3) ⟨Nat.le_of_ble_eq_true rfl, Nat.le_of_ble_eq_true rfl⟩ ⟨Nat.le_of_ble_eq_true rfl, Nat.le_of_ble_eq_true rfl⟩ (Nat.le_of_ble_eq_true rfl) dX6_out_12 ?_
  refine GG.if_eq C (tgt := 44) dX6_out_15 (by decide) (fun c4 => ?_) (fun c4 => ?_)
  · have hf := if_t hf c4
    refine GG.aload_n C dX6_out_44 0 rfl ?_
    refine GG.iconst C dX6_out_45 ic_2 ?_
    obtain ⟨p5, hp5, hf⟩ := obd_some hf
    refine GG.c_X6_299 C rfl (gX6_refuse hp5) ⟨Nat.le_of_ble_eq_true rfl, Nat.le_of_ble_eq_true rfl⟩ ⟨Nat.le_of_ble_eq_true rfl, Nat.le_of_ble_eq_true rfl⟩ (Nat.le_of_ble_eq_true rfl) dX6_out_46 ?_
    have hf := Option.some.inj hf
    subst hf
    exact GG.iret C E dX6_out_49
  · have hf := if_f hf c4
    refine GG.aload_n C dX6_out_18 0 rfl ?_
    refine GG.iload_n C dX6_out_19 2 rfl ?_
    obtain ⟨v6, hv6, hf⟩ := obd_some hf
    refine GG.c_X6_311 C rfl (gX6_isChange hv6) ⟨Nat.le_of_ble_eq_true rfl, Nat.le_of_ble_eq_true rfl⟩ ⟨Nat.le_of_ble_eq_true rfl, Nat.le_of_ble_eq_true rfl⟩ (Nat.le_of_ble_eq_true rfl) dX6_out_20 ?_
    refine GG.if_eq C (tgt := 44) dX6_out_23 (by decide) (fun c7 => ?_) (fun c7 => ?_)
    · have hf := if_t hf c7
      refine GG.aload_n C dX6_out_44 0 rfl ?_
      refine GG.iconst C dX6_out_45 ic_2 ?_
      obtain ⟨p8, hp8, hf⟩ := obd_some hf
      refine GG.c_X6_299 C rfl (gX6_refuse hp8) ⟨Nat.le_of_ble_eq_true rfl, Nat.le_of_ble_eq_true rfl⟩ ⟨Nat.le_of_ble_eq_true rfl, Nat.le_of_ble_eq_true rfl⟩ (Nat.le_of_ble_eq_true rfl) dX6_out_46 ?_
      have hf := Option.some.inj hf
      subst hf
      exact GG.iret C E dX6_out_49
    · have hf := if_f hf c7
      refine GG.iload_n C dX6_out_26 1 rfl ?_
      refine GG.iconst C dX6_out_27 ic_1 ?_
      refine GG.iload_n C dX6_out_28 2 rfl ?_
      refine GG.ishl C dX6_out_29 ?_
      refine GG.iconst C dX6_out_30 ic_m1 ?_
      refine GG.ixor C dX6_out_31 ?_
      refine GG.iand C dX6_out_32 ?_
      refine GG.aload_n C dX6_out_33 0 rfl ?_
      refine GG.iload_n C dX6_out_34 2 rfl ?_
      obtain ⟨v9, hv9, hf⟩ := obd_some hf
      refine GG.c_X6_316 C rfl (gX6_hangers hv9) ⟨Nat.le_of_ble_eq_true rfl, Nat.le_of_ble_eq_true rfl⟩ ⟨Nat.le_of_ble_eq_true rfl, Nat.le_of_ble_eq_true rfl⟩ (Nat.le_of_ble_eq_true rfl) dX6_out_35 ?_
      refine GG.iconst C dX6_out_38 ic_m1 ?_
      refine GG.ixor C dX6_out_39 ?_
      refine GG.iand C dX6_out_40 ?_
      refine GG.goto C (tgt := 49) dX6_out_41 (by decide) ?_
      have hf := Option.some.inj hf
      subst hf
      exact GG.iret C E dX6_out_49
theorem gX6_pick {K : gK} {M : XS}  {S : MS} {a1 : Int32} {a2 : Int32} {o : (Int32 × MS)} (hf : fX6_pick S a1 a2 = some o) : gMet K yX6_pick cX6_pick 3 (some Jvm.ClassFile.FieldType.int) rX6_pick [(.ref (kh K)), (.int a1), (.int a2)] M (some S) (some (.int o.1)) M (some o.2) := by
  refine gMet.of pn_X6 (Nat.le_of_ble_eq_true rfl) fun X C E => ?_
  unfold fX6_pick at hf
  show GG K X 3 0 0 M (some S) 0 [(0, .ref (kh K)), (1, .int a1), (2, .int a2)] []
  refine GG.aload_n C dX6_pick_0 0 rfl ?_
  refine GG.iconst C dX6_pick_1 ic_0 ?_
  refine GG.pm1 C rfl dX6_pick_2 ?_
  refine GG.topS fun S1 hS1 => ?_
  have hf := ltb_s hS1 hf
  refine GG.aload_n C dX6_pick_5 0 rfl ?_
  refine GG.iconst C dX6_pick_6 ic_0 ?_
  refine GG.pm0 C rfl dX6_pick_7 ?_
  refine GG.topS fun S2 hS2 => ?_
  have hf := ltb_s hS2 hf
  refine GG.aload_n C dX6_pick_10 0 rfl ?_
  refine GG.iload_n C dX6_pick_11 1 rfl ?_
  obtain ⟨v3, hv3, hf⟩ := obd_some hf
  refine GG.c_X6_319 C rfl (gX6_isSet hv3) ⟨Nat.le_of_ble_eq_true rfl, Nat.le_of_ble_eq_true rfl⟩ ⟨Nat.le_of_ble_eq_true rfl, Nat.le_of_ble_eq_true rfl⟩ (Nat.le_of_ble_eq_true rfl) dX6_pick_12 ?_
  refine GG.if_eq C (tgt := 41) dX6_pick_15 (by decide) (fun c4 => ?_) (fun c4 => ?_)
  · have hf := if_t hf c4
    refine GG.aload_n C dX6_pick_41 0 rfl ?_
    refine GG.iconst C dX6_pick_42 ic_2 ?_
    obtain ⟨p5, hp5, hf⟩ := obd_some hf
    refine GG.c_X6_299 C rfl (gX6_refuse hp5) ⟨Nat.le_of_ble_eq_true rfl, Nat.le_of_ble_eq_true rfl⟩ ⟨Nat.le_of_ble_eq_true rfl, Nat.le_of_ble_eq_true rfl⟩ (Nat.le_of_ble_eq_true rfl) dX6_pick_43 ?_
    have hf := Option.some.inj hf
    subst hf
    exact GG.iret C E dX6_pick_46
  · have hf := if_f hf c4
    refine GG.aload_n C dX6_pick_18 0 rfl ?_
    refine GG.iload_n C dX6_pick_19 2 rfl ?_
    obtain ⟨v6, hv6, hf⟩ := obd_some hf
    refine GG.c_X6_311 C rfl (gX6_isChange hv6) ⟨Nat.le_of_ble_eq_true rfl, Nat.le_of_ble_eq_true rfl⟩ ⟨Nat.le_of_ble_eq_true rfl, Nat.le_of_ble_eq_true rfl⟩ (Nat.le_of_ble_eq_true rfl) dX6_pick_20 ?_
    refine GG.if_eq C (tgt := 41) dX6_pick_23 (by decide) (fun c7 => ?_) (fun c7 => ?_)
    · have hf := if_t hf c7
      refine GG.aload_n C dX6_pick_41 0 rfl ?_
      refine GG.iconst C dX6_pick_42 ic_2 ?_
      obtain ⟨p8, hp8, hf⟩ := obd_some hf
      refine GG.c_X6_299 C rfl (gX6_refuse hp8) ⟨Nat.le_of_ble_eq_true rfl, Nat.le_of_ble_eq_true rfl⟩ ⟨Nat.le_of_ble_eq_true rfl, Nat.le_of_ble_eq_true rfl⟩ (Nat.le_of_ble_eq_true rfl) dX6_pick_43 ?_
      have hf := Option.some.inj hf
      subst hf
      exact GG.iret C E dX6_pick_46
    · have hf := if_f hf c7
      refine GG.iload_n C dX6_pick_26 1 rfl ?_
      refine GG.iconst C dX6_pick_27 ic_1 ?_
      refine GG.iload_n C dX6_pick_28 2 rfl ?_
      refine GG.ishl C dX6_pick_29 ?_
      refine GG.ior C dX6_pick_30 ?_
      refine GG.aload_n C dX6_pick_31 0 rfl ?_
      refine GG.iconst C dX6_pick_32 ic_0 ?_
      refine GG.iload_n C dX6_pick_33 2 rfl ?_
      obtain ⟨v9, hv9, hf⟩ := obd_some hf
      refine GG.c_X6_249 C rfl (gX6_hangsOn hv9) ⟨Nat.le_of_ble_eq_true rfl, Nat.le_of_ble_eq_true rfl⟩ ⟨Nat.le_of_ble_eq_true rfl, Nat.le_of_ble_eq_true rfl⟩ (Nat.le_of_ble_eq_true rfl) dX6_pick_34 ?_
      refine GG.ior C dX6_pick_37 ?_
      refine GG.goto C (tgt := 46) dX6_pick_38 (by decide) ?_
      have hf := Option.some.inj hf
      subst hf
      exact GG.iret C E dX6_pick_46
theorem gX6_bits_4 {K : gK} {X : gX} {M : XS} {S : Option MS} (C : gC K X cX6_bits 3 yX6_bits (some Jvm.ClassFile.FieldType.int) rX6_bits)  {o : Int32} (E : gE K X (some (.int o)) M S rX6_bits.cells rX6_bits.slots)   :
    ∀ (n : Nat) (a0 : Int32) (a1 : Int32) (a2 : Int32), fX6_bits_4  n a0 a1 a2 = some o → GG K X 3 0 0 M S 4 [(0, .int a0), (1, .int a1), (2, .int a2)] [] := by
  intro n
  induction n with
  | zero => intro a0 a1 a2 hf; cases hf
  | succ n ih =>
    intro a0 a1 a2 hf
    rw [fX6_bits_4] at hf
    refine GG.iload_n C dX6_bits_4 2 rfl ?_
    refine GG.bipush C dX6_bits_5 bp_16 ?_
    refine GG.icmp_ge C (tgt := 24) dX6_bits_7 (by decide) (fun c1 => ?_) (fun c1 => ?_)
    · have hf := if_t hf c1
      refine GG.iload_n C dX6_bits_24 1 rfl ?_
      have hf := Option.some.inj hf
      subst hf
      exact GG.iret C E dX6_bits_25
    · have hf := if_f hf c1
      refine GG.iload_n C dX6_bits_10 1 rfl ?_
      refine GG.iload_n C dX6_bits_11 0 rfl ?_
      refine GG.iload_n C dX6_bits_12 2 rfl ?_
      refine GG.ishr C dX6_bits_13 ?_
      refine GG.iconst C dX6_bits_14 ic_1 ?_
      refine GG.iand C dX6_bits_15 ?_
      refine GG.iadd C dX6_bits_16 ?_
      refine GG.topi fun x2 hx2 => ?_
      have hf := ltb_s hx2 hf
      refine GG.istore_n C (lv' := [(1, .int x2), (0, .int a0), (2, .int a2)]) dX6_bits_17 (by decide) rfl ?_
      refine GG.iinc C (v := (a2 + (nI 1))) (lv' := [(2, .int (a2 + (nI 1))), (1, .int x2), (0, .int a0)]) dX6_bits_18 2 rfl (congrArg (a2 + ·) ic_1) (by decide) rfl ?_
      refine GG.goto C (tgt := 4) dX6_bits_21 (by decide) ?_
      refine GG.sub [2, 1, 0] rfl ?_
      exact ih _ _ _ hf
theorem gX6_bits {K : gK} {M : XS} {S : Option MS}  {a0 : Int32} {o : Int32} (hf : fX6_bits a0 = some o) : gMet K yX6_bits cX6_bits 3 (some Jvm.ClassFile.FieldType.int) rX6_bits [(.int a0)] M S (some (.int o)) M S := by
  refine gMet.of pn_X6 (Nat.le_of_ble_eq_true rfl) fun X C E => ?_
  unfold fX6_bits at hf
  show GG K X 3 0 0 M S 0 [(0, .int a0)] []
  refine GG.iconst C dX6_bits_0 ic_0 ?_
  refine GG.istore_n C (lv' := [(1, .int (nI 0)), (0, .int a0)]) dX6_bits_1 (by decide) rfl ?_
  refine GG.iconst C dX6_bits_2 ic_0 ?_
  refine GG.istore_n C (lv' := [(2, .int (nI 0)), (1, .int (nI 0)), (0, .int a0)]) dX6_bits_3 (by decide) rfl ?_
  refine GG.sub [2, 1, 0] rfl ?_
  exact gX6_bits_4 C E  FU _ _ _ hf
theorem gX6_heaviest_14 {K : gK} {X : gX} {M : XS} (C : gC K X cX6_heaviest 3 yX6_heaviest (some Jvm.ClassFile.FieldType.int) rX6_heaviest)  {o : (Int32 × MS)} (E : gE K X (some (.int o.1)) M (some o.2) rX6_heaviest.cells rX6_heaviest.slots)   :
    ∀ (n : Nat) (S : MS) (a1 : Int32) (a2 : Int32), fX6_heaviest_14  n S a1 a2 = some o → GG K X 3 0 0 M (some S) 14 [(0, .ref (kh K)), (1, .int a1), (2, .int a2)] [] := by
  intro n
  induction n with
  | zero => intro S a1 a2 hf; cases hf
  | succ n ih =>
    intro S a1 a2 hf
    rw [fX6_heaviest_14] at hf
    refine GG.iload_n C dX6_heaviest_14 2 rfl ?_
    refine GG.aload_n C dX6_heaviest_15 0 rfl ?_
    refine GG.gm20 C rfl dX6_heaviest_16 ?_
    refine GG.iconst C dX6_heaviest_19 ic_0 ?_
    obtain ⟨v3, hv3, hf⟩ := obd_some hf
    refine GG.mi C rfl hv3 dX6_heaviest_20 ?_
    refine GG.icmp_ge C (tgt := 55) dX6_heaviest_21 (by decide) (fun c4 => ?_) (fun c4 => ?_)
    · have hf := if_t hf c4
      refine GG.iload_n C dX6_heaviest_55 1 rfl ?_
      refine GG.if_ge C (tgt := 68) dX6_heaviest_56 (by decide) (fun c5 => ?_) (fun c5 => ?_)
      · have hf := if_t hf c5
        refine GG.iload_n C dX6_heaviest_68 1 rfl ?_
        have hf := Option.some.inj hf
        subst hf
        exact GG.iret C E dX6_heaviest_69
      · have hf := if_f hf c5
        refine GG.aload_n C dX6_heaviest_59 0 rfl ?_
        refine GG.bipush C dX6_heaviest_60 bp_8 ?_
        obtain ⟨p6, hp6, hf⟩ := obd_some hf
        refine GG.c_X6_299 C rfl (gX6_refuse hp6) ⟨Nat.le_of_ble_eq_true rfl, Nat.le_of_ble_eq_true rfl⟩ ⟨Nat.le_of_ble_eq_true rfl, Nat.le_of_ble_eq_true rfl⟩ (Nat.le_of_ble_eq_true rfl) dX6_heaviest_62 ?_
        refine GG.goto C (tgt := 69) dX6_heaviest_65 (by decide) ?_
        have hf := Option.some.inj hf
        subst hf
        exact GG.iret C E dX6_heaviest_69
    · have hf := if_f hf c4
      refine GG.iload_n C dX6_heaviest_24 1 rfl ?_
      refine GG.if_lt C (tgt := 47) dX6_heaviest_25 (by decide) (fun c7 => ?_) (fun c7 => ?_)
      · have hf := if_t hf c7
        refine GG.iload_n C dX6_heaviest_47 2 rfl ?_
        refine GG.istore_n C (lv' := [(1, .int a2), (0, .ref (kh K)), (2, .int a2)]) dX6_heaviest_48 (by decide) rfl ?_
        refine GG.iinc C (v := (a2 + (nI 1))) (lv' := [(2, .int (a2 + (nI 1))), (1, .int a2), (0, .ref (kh K))]) dX6_heaviest_49 2 rfl (congrArg (a2 + ·) ic_1) (by decide) rfl ?_
        refine GG.goto C (tgt := 14) dX6_heaviest_52 (by decide) ?_
        refine GG.sub [2, 1, 0] rfl ?_
        exact ih _ _ _ hf
      · have hf := if_f hf c7
        refine GG.aload_n C dX6_heaviest_28 0 rfl ?_
        refine GG.iload_n C dX6_heaviest_29 2 rfl ?_
        obtain ⟨v8, hv8, hf⟩ := obd_some hf
        refine GG.c_X6_316 C rfl (gX6_hangers hv8) ⟨Nat.le_of_ble_eq_true rfl, Nat.le_of_ble_eq_true rfl⟩ ⟨Nat.le_of_ble_eq_true rfl, Nat.le_of_ble_eq_true rfl⟩ (Nat.le_of_ble_eq_true rfl) dX6_heaviest_30 ?_
        obtain ⟨v9, hv9, hf⟩ := obd_some hf
        refine GG.c_X6_325 C rfl (gX6_bits hv9) ⟨Nat.le_of_ble_eq_true rfl, Nat.le_of_ble_eq_true rfl⟩ ⟨Nat.le_of_ble_eq_true rfl, Nat.le_of_ble_eq_true rfl⟩ (Nat.le_of_ble_eq_true rfl) dX6_heaviest_33 ?_
        refine GG.aload_n C dX6_heaviest_36 0 rfl ?_
        refine GG.iload_n C dX6_heaviest_37 1 rfl ?_
        obtain ⟨v10, hv10, hf⟩ := obd_some hf
        refine GG.c_X6_316 C rfl (gX6_hangers hv10) ⟨Nat.le_of_ble_eq_true rfl, Nat.le_of_ble_eq_true rfl⟩ ⟨Nat.le_of_ble_eq_true rfl, Nat.le_of_ble_eq_true rfl⟩ (Nat.le_of_ble_eq_true rfl) dX6_heaviest_38 ?_
        obtain ⟨v11, hv11, hf⟩ := obd_some hf
        refine GG.c_X6_325 C rfl (gX6_bits hv11) ⟨Nat.le_of_ble_eq_true rfl, Nat.le_of_ble_eq_true rfl⟩ ⟨Nat.le_of_ble_eq_true rfl, Nat.le_of_ble_eq_true rfl⟩ (Nat.le_of_ble_eq_true rfl) dX6_heaviest_41 ?_
        refine GG.icmp_le C (tgt := 49) dX6_heaviest_44 (by decide) (fun c12 => ?_) (fun c12 => ?_)
        · have hf := if_t hf c12
          refine GG.iinc C (v := (a2 + (nI 1))) (lv' := [(2, .int (a2 + (nI 1))), (0, .ref (kh K)), (1, .int a1)]) dX6_heaviest_49 2 rfl (congrArg (a2 + ·) ic_1) (by decide) rfl ?_
          refine GG.goto C (tgt := 14) dX6_heaviest_52 (by decide) ?_
          refine GG.sub [1, 2, 0] rfl ?_
          exact ih _ _ _ hf
        · have hf := if_f hf c12
          refine GG.iload_n C dX6_heaviest_47 2 rfl ?_
          refine GG.istore_n C (lv' := [(1, .int a2), (0, .ref (kh K)), (2, .int a2)]) dX6_heaviest_48 (by decide) rfl ?_
          refine GG.iinc C (v := (a2 + (nI 1))) (lv' := [(2, .int (a2 + (nI 1))), (1, .int a2), (0, .ref (kh K))]) dX6_heaviest_49 2 rfl (congrArg (a2 + ·) ic_1) (by decide) rfl ?_
          refine GG.goto C (tgt := 14) dX6_heaviest_52 (by decide) ?_
          refine GG.sub [2, 1, 0] rfl ?_
          exact ih _ _ _ hf
theorem gX6_heaviest {K : gK} {M : XS}  {S : MS} {o : (Int32 × MS)} (hf : fX6_heaviest S = some o) : gMet K yX6_heaviest cX6_heaviest 3 (some Jvm.ClassFile.FieldType.int) rX6_heaviest [(.ref (kh K))] M (some S) (some (.int o.1)) M (some o.2) := by
  refine gMet.of pn_X6 (Nat.le_of_ble_eq_true rfl) fun X C E => ?_
  unfold fX6_heaviest at hf
  show GG K X 3 0 0 M (some S) 0 [(0, .ref (kh K))] []
  refine GG.aload_n C dX6_heaviest_0 0 rfl ?_
  refine GG.iconst C dX6_heaviest_1 ic_0 ?_
  refine GG.pm1 C rfl dX6_heaviest_2 ?_
  refine GG.topS fun S1 hS1 => ?_
  have hf := ltb_s hS1 hf
  refine GG.aload_n C dX6_heaviest_5 0 rfl ?_
  refine GG.iconst C dX6_heaviest_6 ic_0 ?_
  refine GG.pm0 C rfl dX6_heaviest_7 ?_
  refine GG.topS fun S2 hS2 => ?_
  have hf := ltb_s hS2 hf
  refine GG.iconst C dX6_heaviest_10 ic_m1 ?_
  refine GG.istore_n C (lv' := [(1, .int (-1 : Int32)), (0, .ref (kh K))]) dX6_heaviest_11 (by decide) rfl ?_
  refine GG.iconst C dX6_heaviest_12 ic_0 ?_
  refine GG.istore_n C (lv' := [(2, .int (nI 0)), (1, .int (-1 : Int32)), (0, .ref (kh K))]) dX6_heaviest_13 (by decide) rfl ?_
  refine GG.sub [2, 1, 0] rfl ?_
  exact gX6_heaviest_14 C E  FU _ _ _ hf
theorem gX6_alone_14 {K : gK} {X : gX} {M : XS} (C : gC K X cX6_alone 3 yX6_alone (some Jvm.ClassFile.FieldType.int) rX6_alone)  {o : (Int32 × MS)} (E : gE K X (some (.int o.1)) M (some o.2) rX6_alone.cells rX6_alone.slots)   :
    ∀ (n : Nat) (S : MS) (a1 : Int32) (a2 : Int32), fX6_alone_14  n S a1 a2 = some o → GG K X 3 0 0 M (some S) 14 [(0, .ref (kh K)), (1, .int a1), (2, .int a2)] [] := by
  intro n
  induction n with
  | zero => intro S a1 a2 hf; cases hf
  | succ n ih =>
    intro S a1 a2 hf
    rw [fX6_alone_14] at hf
    refine GG.iload_n C dX6_alone_14 2 rfl ?_
    refine GG.aload_n C dX6_alone_15 0 rfl ?_
    refine GG.gm20 C rfl dX6_alone_16 ?_
    refine GG.iconst C dX6_alone_19 ic_0 ?_
    obtain ⟨v3, hv3, hf⟩ := obd_some hf
    refine GG.mi C rfl hv3 dX6_alone_20 ?_
    refine GG.icmp_ge C (tgt := 57) dX6_alone_21 (by decide) (fun c4 => ?_) (fun c4 => ?_)
    · have hf := if_t hf c4
      refine GG.iload_n C dX6_alone_57 1 rfl ?_
      have hf := Option.some.inj hf
      subst hf
      exact GG.iret C E dX6_alone_58
    · have hf := if_f hf c4
      refine GG.iload_n C dX6_alone_24 1 rfl ?_
      refine GG.aload_n C dX6_alone_25 0 rfl ?_
      refine GG.iconst C dX6_alone_26 ic_0 ?_
      refine GG.iload_n C dX6_alone_27 2 rfl ?_
      obtain ⟨v5, hv5, hf⟩ := obd_some hf
      refine GG.c_X6_239 C rfl (gX6_kind hv5) ⟨Nat.le_of_ble_eq_true rfl, Nat.le_of_ble_eq_true rfl⟩ ⟨Nat.le_of_ble_eq_true rfl, Nat.le_of_ble_eq_true rfl⟩ (Nat.le_of_ble_eq_true rfl) dX6_alone_28 ?_
      refine GG.if_ne C (tgt := 48) dX6_alone_31 (by decide) (fun c6 => ?_) (fun c6 => ?_)
      · have hf := if_f hf c6
        refine GG.iconst C dX6_alone_48 ic_0 ?_
        refine GG.ior C dX6_alone_49 ?_
        refine GG.topi fun x7 hx7 => ?_
        have hf := ltb_s hx7 hf
        refine GG.istore_n C (lv' := [(1, .int x7), (0, .ref (kh K)), (2, .int a2)]) dX6_alone_50 (by decide) rfl ?_
        refine GG.iinc C (v := (a2 + (nI 1))) (lv' := [(2, .int (a2 + (nI 1))), (1, .int x7), (0, .ref (kh K))]) dX6_alone_51 2 rfl (congrArg (a2 + ·) ic_1) (by decide) rfl ?_
        refine GG.goto C (tgt := 14) dX6_alone_54 (by decide) ?_
        refine GG.sub [2, 1, 0] rfl ?_
        exact ih _ _ _ hf
      · have hf := if_t hf c6
        refine GG.aload_n C dX6_alone_34 0 rfl ?_
        refine GG.iload_n C dX6_alone_35 2 rfl ?_
        obtain ⟨v8, hv8, hf⟩ := obd_some hf
        refine GG.c_X6_316 C rfl (gX6_hangers hv8) ⟨Nat.le_of_ble_eq_true rfl, Nat.le_of_ble_eq_true rfl⟩ ⟨Nat.le_of_ble_eq_true rfl, Nat.le_of_ble_eq_true rfl⟩ (Nat.le_of_ble_eq_true rfl) dX6_alone_36 ?_
        refine GG.if_ne C (tgt := 48) dX6_alone_39 (by decide) (fun c9 => ?_) (fun c9 => ?_)
        · have hf := if_f hf c9
          refine GG.iconst C dX6_alone_48 ic_0 ?_
          refine GG.ior C dX6_alone_49 ?_
          refine GG.topi fun x10 hx10 => ?_
          have hf := ltb_s hx10 hf
          refine GG.istore_n C (lv' := [(1, .int x10), (0, .ref (kh K)), (2, .int a2)]) dX6_alone_50 (by decide) rfl ?_
          refine GG.iinc C (v := (a2 + (nI 1))) (lv' := [(2, .int (a2 + (nI 1))), (1, .int x10), (0, .ref (kh K))]) dX6_alone_51 2 rfl (congrArg (a2 + ·) ic_1) (by decide) rfl ?_
          refine GG.goto C (tgt := 14) dX6_alone_54 (by decide) ?_
          refine GG.sub [2, 1, 0] rfl ?_
          exact ih _ _ _ hf
        · have hf := if_t hf c9
          refine GG.iconst C dX6_alone_42 ic_1 ?_
          refine GG.iload_n C dX6_alone_43 2 rfl ?_
          refine GG.ishl C dX6_alone_44 ?_
          refine GG.goto C (tgt := 49) dX6_alone_45 (by decide) ?_
          refine GG.ior C dX6_alone_49 ?_
          refine GG.topi fun x11 hx11 => ?_
          have hf := ltb_s hx11 hf
          refine GG.istore_n C (lv' := [(1, .int x11), (0, .ref (kh K)), (2, .int a2)]) dX6_alone_50 (by decide) rfl ?_
          refine GG.iinc C (v := (a2 + (nI 1))) (lv' := [(2, .int (a2 + (nI 1))), (1, .int x11), (0, .ref (kh K))]) dX6_alone_51 2 rfl (congrArg (a2 + ·) ic_1) (by decide) rfl ?_
          refine GG.goto C (tgt := 14) dX6_alone_54 (by decide) ?_
          refine GG.sub [2, 1, 0] rfl ?_
          exact ih _ _ _ hf
theorem gX6_alone {K : gK} {M : XS}  {S : MS} {o : (Int32 × MS)} (hf : fX6_alone S = some o) : gMet K yX6_alone cX6_alone 3 (some Jvm.ClassFile.FieldType.int) rX6_alone [(.ref (kh K))] M (some S) (some (.int o.1)) M (some o.2) := by
  refine gMet.of pn_X6 (Nat.le_of_ble_eq_true rfl) fun X C E => ?_
  unfold fX6_alone at hf
  show GG K X 3 0 0 M (some S) 0 [(0, .ref (kh K))] []
  refine GG.aload_n C dX6_alone_0 0 rfl ?_
  refine GG.iconst C dX6_alone_1 ic_0 ?_
  refine GG.pm1 C rfl dX6_alone_2 ?_
  refine GG.topS fun S1 hS1 => ?_
  have hf := ltb_s hS1 hf
  refine GG.aload_n C dX6_alone_5 0 rfl ?_
  refine GG.iconst C dX6_alone_6 ic_0 ?_
  refine GG.pm0 C rfl dX6_alone_7 ?_
  refine GG.topS fun S2 hS2 => ?_
  have hf := ltb_s hS2 hf
  refine GG.iconst C dX6_alone_10 ic_0 ?_
  refine GG.istore_n C (lv' := [(1, .int (nI 0)), (0, .ref (kh K))]) dX6_alone_11 (by decide) rfl ?_
  refine GG.iconst C dX6_alone_12 ic_0 ?_
  refine GG.istore_n C (lv' := [(2, .int (nI 0)), (1, .int (nI 0)), (0, .ref (kh K))]) dX6_alone_13 (by decide) rfl ?_
  refine GG.sub [2, 1, 0] rfl ?_
  exact gX6_alone_14 C E  FU _ _ _ hf
theorem gX6_whyNot {K : gK} {M : XS}  {S : MS} {a1 : Int32} {o : Int32} (hf : fX6_whyNot S a1 = some o) : gMet K yX6_whyNot cX6_whyNot 2 (some Jvm.ClassFile.FieldType.int) rX6_whyNot [(.ref (kh K)), (.int a1)] M (some S) (some (.int o)) M (some S) := by
  refine gMet.of pn_X6 (Nat.le_of_ble_eq_true rfl) fun X C E => ?_
  unfold fX6_whyNot at hf
  show GG K X 2 0 0 M (some S) 0 [(0, .ref (kh K)), (1, .int a1)] []
  refine GG.aload_n C dX6_whyNot_0 0 rfl ?_
  refine GG.iload_n C dX6_whyNot_1 1 rfl ?_
  obtain ⟨v1, hv1, hf⟩ := obd_some hf
  refine GG.c_X6_319 C rfl (gX6_isSet hv1) ⟨Nat.le_of_ble_eq_true rfl, Nat.le_of_ble_eq_true rfl⟩ ⟨Nat.le_of_ble_eq_true rfl, Nat.le_of_ble_eq_true rfl⟩ (Nat.le_of_ble_eq_true rfl) dX6_whyNot_2 ?_
  refine GG.if_ne C (tgt := 12) dX6_whyNot_5 (by decide) (fun c2 => ?_) (fun c2 => ?_)
  · have hf := if_f hf c2
    refine GG.aload_n C dX6_whyNot_12 0 rfl ?_
    refine GG.iload_n C dX6_whyNot_13 1 rfl ?_
    obtain ⟨v3, hv3, hf⟩ := obd_some hf
    refine GG.c_X6_322 C rfl (gX6_lackOf hv3) ⟨Nat.le_of_ble_eq_true rfl, Nat.le_of_ble_eq_true rfl⟩ ⟨Nat.le_of_ble_eq_true rfl, Nat.le_of_ble_eq_true rfl⟩ (Nat.le_of_ble_eq_true rfl) dX6_whyNot_14 ?_
    refine GG.if_eq C (tgt := 25) dX6_whyNot_17 (by decide) (fun c4 => ?_) (fun c4 => ?_)
    · have hf := if_t hf c4
      refine GG.iconst C dX6_whyNot_25 ic_0 ?_
      have hf := Option.some.inj hf
      subst hf
      exact GG.iret C E dX6_whyNot_26
    · have hf := if_f hf c4
      refine GG.bipush C dX6_whyNot_20 bp_9 ?_
      refine GG.goto C (tgt := 26) dX6_whyNot_22 (by decide) ?_
      have hf := Option.some.inj hf
      subst hf
      exact GG.iret C E dX6_whyNot_26
  · have hf := if_t hf c2
    refine GG.iconst C dX6_whyNot_8 ic_2 ?_
    refine GG.goto C (tgt := 26) dX6_whyNot_9 (by decide) ?_
    have hf := Option.some.inj hf
    subst hf
    exact GG.iret C E dX6_whyNot_26
theorem gX6_isLeftOut_2 {K : gK} {X : gX} {M : XS} {S : MS} (C : gC K X cX6_isLeftOut 4 yX6_isLeftOut (some Jvm.ClassFile.FieldType.boolean) rX6_isLeftOut)  {o : Int32} (E : gE K X (some (.int o)) M (some S) rX6_isLeftOut.cells rX6_isLeftOut.slots)   :
    ∀ (n : Nat) (a1 : Int32) (a2 : Int32) (a3 : Int32), fX6_isLeftOut_2 S n a1 a2 a3 = some o → GG K X 4 0 0 M (some S) 2 [(0, .ref (kh K)), (1, .int a1), (2, .int a2), (3, .int a3)] [] := by
  intro n
  induction n with
  | zero => intro a1 a2 a3 hf; cases hf
  | succ n ih =>
    intro a1 a2 a3 hf
    rw [fX6_isLeftOut_2] at hf
    refine GG.iload_n C dX6_isLeftOut_2 3 rfl ?_
    refine GG.aload_n C dX6_isLeftOut_3 0 rfl ?_
    refine GG.gm20 C rfl dX6_isLeftOut_4 ?_
    refine GG.iconst C dX6_isLeftOut_7 ic_0 ?_
    obtain ⟨v1, hv1, hf⟩ := obd_some hf
    refine GG.mi C rfl hv1 dX6_isLeftOut_8 ?_
    refine GG.icmp_ge C (tgt := 51) dX6_isLeftOut_9 (by decide) (fun c2 => ?_) (fun c2 => ?_)
    · have hf := if_t hf c2
      refine GG.iconst C dX6_isLeftOut_51 ic_0 ?_
      have hf := Option.some.inj hf
      subst hf
      exact GG.zret C zb_0 E dX6_isLeftOut_52
    · have hf := if_f hf c2
      refine GG.iload_n C dX6_isLeftOut_12 1 rfl ?_
      refine GG.iload_n C dX6_isLeftOut_13 3 rfl ?_
      obtain ⟨v3, hv3, hf⟩ := obd_some hf
      refine GG.c_X6_302 C rfl (gX6_hasIn hv3) ⟨Nat.le_of_ble_eq_true rfl, Nat.le_of_ble_eq_true rfl⟩ ⟨Nat.le_of_ble_eq_true rfl, Nat.le_of_ble_eq_true rfl⟩ (Nat.le_of_ble_eq_true rfl) dX6_isLeftOut_14 ?_
      refine GG.if_eq C (tgt := 45) dX6_isLeftOut_17 (by decide) (fun c4 => ?_) (fun c4 => ?_)
      · have hf := if_t hf c4
        refine GG.iinc C (v := (a3 + (nI 1))) (lv' := [(3, .int (a3 + (nI 1))), (0, .ref (kh K)), (1, .int a1), (2, .int a2)]) dX6_isLeftOut_45 3 rfl (congrArg (a3 + ·) ic_1) (by decide) rfl ?_
        refine GG.goto C (tgt := 2) dX6_isLeftOut_48 (by decide) ?_
        refine GG.sub [1, 2, 3, 0] rfl ?_
        exact ih _ _ _ hf
      · have hf := if_f hf c4
        refine GG.aload_n C dX6_isLeftOut_20 0 rfl ?_
        refine GG.iconst C dX6_isLeftOut_21 ic_0 ?_
        refine GG.iload_n C dX6_isLeftOut_22 3 rfl ?_
        obtain ⟨v5, hv5, hf⟩ := obd_some hf
        refine GG.c_X6_239 C rfl (gX6_kind hv5) ⟨Nat.le_of_ble_eq_true rfl, Nat.le_of_ble_eq_true rfl⟩ ⟨Nat.le_of_ble_eq_true rfl, Nat.le_of_ble_eq_true rfl⟩ (Nat.le_of_ble_eq_true rfl) dX6_isLeftOut_23 ?_
        refine GG.iconst C dX6_isLeftOut_26 ic_4 ?_
        refine GG.icmp_ne C (tgt := 45) dX6_isLeftOut_27 (by decide) (fun c6 => ?_) (fun c6 => ?_)
        · have hf := if_f hf c6
          refine GG.iinc C (v := (a3 + (nI 1))) (lv' := [(3, .int (a3 + (nI 1))), (0, .ref (kh K)), (1, .int a1), (2, .int a2)]) dX6_isLeftOut_45 3 rfl (congrArg (a3 + ·) ic_1) (by decide) rfl ?_
          refine GG.goto C (tgt := 2) dX6_isLeftOut_48 (by decide) ?_
          refine GG.sub [1, 2, 3, 0] rfl ?_
          exact ih _ _ _ hf
        · have hf := if_t hf c6
          refine GG.aload_n C dX6_isLeftOut_30 0 rfl ?_
          refine GG.gm20 C rfl dX6_isLeftOut_31 ?_
          refine GG.bipush C dX6_isLeftOut_34 bp_66 ?_
          refine GG.iload_n C dX6_isLeftOut_36 3 rfl ?_
          refine GG.iadd C dX6_isLeftOut_37 ?_
          obtain ⟨v7, hv7, hf⟩ := obd_some hf
          refine GG.mi C rfl hv7 dX6_isLeftOut_38 ?_
          refine GG.iload_n C dX6_isLeftOut_39 2 rfl ?_
          refine GG.icmp_ne C (tgt := 45) dX6_isLeftOut_40 (by decide) (fun c8 => ?_) (fun c8 => ?_)
          · have hf := if_f hf c8
            refine GG.iinc C (v := (a3 + (nI 1))) (lv' := [(3, .int (a3 + (nI 1))), (0, .ref (kh K)), (1, .int a1), (2, .int a2)]) dX6_isLeftOut_45 3 rfl (congrArg (a3 + ·) ic_1) (by decide) rfl ?_
            refine GG.goto C (tgt := 2) dX6_isLeftOut_48 (by decide) ?_
            refine GG.sub [1, 2, 3, 0] rfl ?_
            exact ih _ _ _ hf
          · have hf := if_t hf c8
            refine GG.iconst C dX6_isLeftOut_43 ic_1 ?_
            have hf := Option.some.inj hf
            subst hf
            exact GG.zret C zb_1 E dX6_isLeftOut_44
theorem gX6_isLeftOut {K : gK} {M : XS}  {S : MS} {a1 : Int32} {a2 : Int32} {o : Int32} (hf : fX6_isLeftOut S a1 a2 = some o) : gMet K yX6_isLeftOut cX6_isLeftOut 4 (some Jvm.ClassFile.FieldType.boolean) rX6_isLeftOut [(.ref (kh K)), (.int a1), (.int a2)] M (some S) (some (.int o)) M (some S) := by
  refine gMet.of pn_X6 (Nat.le_of_ble_eq_true rfl) fun X C E => ?_
  unfold fX6_isLeftOut at hf
  show GG K X 4 0 0 M (some S) 0 [(0, .ref (kh K)), (1, .int a1), (2, .int a2)] []
  refine GG.iconst C dX6_isLeftOut_0 ic_0 ?_
  refine GG.istore_n C (lv' := [(3, .int (nI 0)), (0, .ref (kh K)), (1, .int a1), (2, .int a2)]) dX6_isLeftOut_1 (by decide) rfl ?_
  refine GG.sub [1, 2, 3, 0] rfl ?_
  exact gX6_isLeftOut_2 C E  FU _ _ _ hf
theorem gX6_isSettled_65 {K : gK} {X : gX} {M : XS} {S : MS} (C : gC K X cX6_isSettled 5 yX6_isSettled (some Jvm.ClassFile.FieldType.boolean) rX6_isSettled)  {o : Int32} (E : gE K X (some (.int o)) M (some S) rX6_isSettled.cells rX6_isSettled.slots) {k3 : Int32 → Int32 → Int32 → Int32 → Option Int32} (hk3 : ∀ (a1 : Int32) (a2 : Int32) (a3 : Int32) (a4 : Int32), k3 a1 a2 a3 a4 = some o → GG K X 5 0 0 M (some S) 3 [(0, .ref (kh K)), (1, .int a1), (2, .int a2), (3, .int a3), (4, .int a4)] []) :
    ∀ (a1 : Int32) (a2 : Int32) (a3 : Int32) (a4 : Int32), fX6_isSettled_65 S k3 a1 a2 a3 a4 = some o → GG K X 5 0 0 M (some S) 65 [(0, .ref (kh K)), (1, .int a1), (2, .int a2), (3, .int a3), (4, .int a4)] [] := by
  intro a1 a2 a3 a4 hf
  unfold fX6_isSettled_65 at hf
  refine GG.aload_n C dX6_isSettled_65 0 rfl ?_
  refine GG.gm20 C rfl dX6_isSettled_66 ?_
  refine GG.bipush C dX6_isSettled_69 bp_50 ?_
  refine GG.iload C dX6_isSettled_71 4 rfl ?_
  refine GG.iadd C dX6_isSettled_73 ?_
  obtain ⟨v11, hv11, hf⟩ := obd_some hf
  refine GG.mi C rfl hv11 dX6_isSettled_74 ?_
  refine GG.iload_n C dX6_isSettled_75 3 rfl ?_
  refine GG.icmp_ne C (tgt := 95) dX6_isSettled_76 (by decide) (fun c12 => ?_) (fun c12 => ?_)
  · have hf := if_f hf c12
    refine GG.iinc C (v := (a4 + (nI 1))) (lv' := [(4, .int (a4 + (nI 1))), (0, .ref (kh K)), (1, .int a1), (2, .int a2), (3, .int a3)]) dX6_isSettled_95 4 rfl (congrArg (a4 + ·) ic_1) (by decide) rfl ?_
    refine GG.goto C (tgt := 3) dX6_isSettled_98 (by decide) ?_
    refine GG.sub [1, 2, 3, 4, 0] rfl ?_
    exact hk3 _ _ _ _ hf
  · have hf := if_t hf c12
    refine GG.aload_n C dX6_isSettled_79 0 rfl ?_
    refine GG.gm20 C rfl dX6_isSettled_80 ?_
    refine GG.bipush C dX6_isSettled_83 bp_66 ?_
    refine GG.iload C dX6_isSettled_85 4 rfl ?_
    refine GG.iadd C dX6_isSettled_87 ?_
    obtain ⟨v13, hv13, hf⟩ := obd_some hf
    refine GG.mi C rfl hv13 dX6_isSettled_88 ?_
    refine GG.iload_n C dX6_isSettled_89 2 rfl ?_
    refine GG.icmp_ne C (tgt := 95) dX6_isSettled_90 (by decide) (fun c14 => ?_) (fun c14 => ?_)
    · have hf := if_f hf c14
      refine GG.iinc C (v := (a4 + (nI 1))) (lv' := [(4, .int (a4 + (nI 1))), (0, .ref (kh K)), (1, .int a1), (2, .int a2), (3, .int a3)]) dX6_isSettled_95 4 rfl (congrArg (a4 + ·) ic_1) (by decide) rfl ?_
      refine GG.goto C (tgt := 3) dX6_isSettled_98 (by decide) ?_
      refine GG.sub [1, 2, 3, 4, 0] rfl ?_
      exact hk3 _ _ _ _ hf
    · have hf := if_t hf c14
      refine GG.iconst C dX6_isSettled_93 ic_1 ?_
      have hf := Option.some.inj hf
      subst hf
      exact GG.zret C zb_1 E dX6_isSettled_94
theorem gX6_isSettled_3 {K : gK} {X : gX} {M : XS} {S : MS} (C : gC K X cX6_isSettled 5 yX6_isSettled (some Jvm.ClassFile.FieldType.boolean) rX6_isSettled)  {o : Int32} (E : gE K X (some (.int o)) M (some S) rX6_isSettled.cells rX6_isSettled.slots)   :
    ∀ (n : Nat) (a1 : Int32) (a2 : Int32) (a3 : Int32) (a4 : Int32), fX6_isSettled_3 S n a1 a2 a3 a4 = some o → GG K X 5 0 0 M (some S) 3 [(0, .ref (kh K)), (1, .int a1), (2, .int a2), (3, .int a3), (4, .int a4)] [] := by
  intro n
  induction n with
  | zero => intro a1 a2 a3 a4 hf; cases hf
  | succ n ih =>
    intro a1 a2 a3 a4 hf
    rw [fX6_isSettled_3] at hf
    refine GG.iload C dX6_isSettled_3 4 rfl ?_
    refine GG.aload_n C dX6_isSettled_5 0 rfl ?_
    refine GG.gm20 C rfl dX6_isSettled_6 ?_
    refine GG.iconst C dX6_isSettled_9 ic_0 ?_
    obtain ⟨v1, hv1, hf⟩ := obd_some hf
    refine GG.mi C rfl hv1 dX6_isSettled_10 ?_
    refine GG.icmp_ge C (tgt := 101) dX6_isSettled_11 (by decide) (fun c2 => ?_) (fun c2 => ?_)
    · have hf := if_t hf c2
      refine GG.iconst C dX6_isSettled_101 ic_0 ?_
      have hf := Option.some.inj hf
      subst hf
      exact GG.zret C zb_0 E dX6_isSettled_102
    · have hf := if_f hf c2
      refine GG.iload_n C dX6_isSettled_14 1 rfl ?_
      refine GG.iload C dX6_isSettled_15 4 rfl ?_
      obtain ⟨v3, hv3, hf⟩ := obd_some hf
      refine GG.c_X6_302 C rfl (gX6_hasIn hv3) ⟨Nat.le_of_ble_eq_true rfl, Nat.le_of_ble_eq_true rfl⟩ ⟨Nat.le_of_ble_eq_true rfl, Nat.le_of_ble_eq_true rfl⟩ (Nat.le_of_ble_eq_true rfl) dX6_isSettled_17 ?_
      refine GG.if_eq C (tgt := 95) dX6_isSettled_20 (by decide) (fun c4 => ?_) (fun c4 => ?_)
      · have hf := if_t hf c4
        refine GG.iinc C (v := (a4 + (nI 1))) (lv' := [(4, .int (a4 + (nI 1))), (0, .ref (kh K)), (1, .int a1), (2, .int a2), (3, .int a3)]) dX6_isSettled_95 4 rfl (congrArg (a4 + ·) ic_1) (by decide) rfl ?_
        refine GG.goto C (tgt := 3) dX6_isSettled_98 (by decide) ?_
        refine GG.sub [1, 2, 3, 4, 0] rfl ?_
        exact ih _ _ _ _ hf
      · have hf := if_f hf c4
        refine GG.aload_n C dX6_isSettled_23 0 rfl ?_
        refine GG.iconst C dX6_isSettled_24 ic_0 ?_
        refine GG.iload C dX6_isSettled_25 4 rfl ?_
        obtain ⟨v5, hv5, hf⟩ := obd_some hf
        refine GG.c_X6_239 C rfl (gX6_kind hv5) ⟨Nat.le_of_ble_eq_true rfl, Nat.le_of_ble_eq_true rfl⟩ ⟨Nat.le_of_ble_eq_true rfl, Nat.le_of_ble_eq_true rfl⟩ (Nat.le_of_ble_eq_true rfl) dX6_isSettled_27 ?_
        refine GG.iconst C dX6_isSettled_30 ic_4 ?_
        refine GG.icmp_eq C (tgt := 37) dX6_isSettled_31 (by decide) (fun c6 => ?_) (fun c6 => ?_)
        · have hf := if_t hf c6
          refine GG.aload_n C dX6_isSettled_37 0 rfl ?_
          refine GG.gm20 C rfl dX6_isSettled_38 ?_
          refine GG.bipush C dX6_isSettled_41 bp_50 ?_
          refine GG.iload C dX6_isSettled_43 4 rfl ?_
          refine GG.iadd C dX6_isSettled_45 ?_
          obtain ⟨v7, hv7, hf⟩ := obd_some hf
          refine GG.mi C rfl hv7 dX6_isSettled_46 ?_
          refine GG.iload_n C dX6_isSettled_47 2 rfl ?_
          refine GG.icmp_ne C (tgt := 65) dX6_isSettled_48 (by decide) (fun c8 => ?_) (fun c8 => ?_)
          · have hf := if_f hf c8
            refine GG.sub [0, 1, 2, 3, 4] rfl ?_
            exact gX6_isSettled_65 C E (hk3 := ih) _ _ _ _ hf
          · have hf := if_t hf c8
            refine GG.aload_n C dX6_isSettled_51 0 rfl ?_
            refine GG.gm20 C rfl dX6_isSettled_52 ?_
            refine GG.bipush C dX6_isSettled_55 bp_66 ?_
            refine GG.iload C dX6_isSettled_57 4 rfl ?_
            refine GG.iadd C dX6_isSettled_59 ?_
            obtain ⟨v9, hv9, hf⟩ := obd_some hf
            refine GG.mi C rfl hv9 dX6_isSettled_60 ?_
            refine GG.iload_n C dX6_isSettled_61 3 rfl ?_
            refine GG.icmp_eq C (tgt := 93) dX6_isSettled_62 (by decide) (fun c10 => ?_) (fun c10 => ?_)
            · have hf := if_t hf c10
              refine GG.iconst C dX6_isSettled_93 ic_1 ?_
              have hf := Option.some.inj hf
              subst hf
              exact GG.zret C zb_1 E dX6_isSettled_94
            · have hf := if_f hf c10
              refine GG.sub [0, 1, 2, 3, 4] rfl ?_
              exact gX6_isSettled_65 C E (hk3 := ih) _ _ _ _ hf
        · have hf := if_f hf c6
          refine GG.goto C (tgt := 95) dX6_isSettled_34 (by decide) ?_
          refine GG.iinc C (v := (a4 + (nI 1))) (lv' := [(4, .int (a4 + (nI 1))), (0, .ref (kh K)), (1, .int a1), (2, .int a2), (3, .int a3)]) dX6_isSettled_95 4 rfl (congrArg (a4 + ·) ic_1) (by decide) rfl ?_
          refine GG.goto C (tgt := 3) dX6_isSettled_98 (by decide) ?_
          refine GG.sub [1, 2, 3, 4, 0] rfl ?_
          exact ih _ _ _ _ hf
theorem gX6_isSettled {K : gK} {M : XS}  {S : MS} {a1 : Int32} {a2 : Int32} {a3 : Int32} {o : Int32} (hf : fX6_isSettled S a1 a2 a3 = some o) : gMet K yX6_isSettled cX6_isSettled 5 (some Jvm.ClassFile.FieldType.boolean) rX6_isSettled [(.ref (kh K)), (.int a1), (.int a2), (.int a3)] M (some S) (some (.int o)) M (some S) := by
  refine gMet.of pn_X6 (Nat.le_of_ble_eq_true rfl) fun X C E => ?_
  unfold fX6_isSettled at hf
  show GG K X 5 0 0 M (some S) 0 [(0, .ref (kh K)), (1, .int a1), (2, .int a2), (3, .int a3)] []
  refine GG.iconst C dX6_isSettled_0 ic_0 ?_
  refine GG.istore C (lv' := [(4, .int (nI 0)), (0, .ref (kh K)), (1, .int a1), (2, .int a2), (3, .int a3)]) dX6_isSettled_1 (by decide) rfl ?_
  refine GG.sub [1, 2, 3, 4, 0] rfl ?_
  exact gX6_isSettled_3 C E  FU _ _ _ _ hf
theorem gX6_quarrel {K : gK} {M : XS}  {S : MS} {a1 : Int32} {a2 : Int32} {a3 : Int32} {o : Int32} (hf : fX6_quarrel S a1 a2 a3 = some o) : gMet K yX6_quarrel cX6_quarrel 4 (some Jvm.ClassFile.FieldType.boolean) rX6_quarrel [(.ref (kh K)), (.int a1), (.int a2), (.int a3)] M (some S) (some (.int o)) M (some S) := by
  refine gMet.of pn_X6 (Nat.le_of_ble_eq_true rfl) fun X C E => ?_
  unfold fX6_quarrel at hf
  show GG K X 4 0 0 M (some S) 0 [(0, .ref (kh K)), (1, .int a1), (2, .int a2), (3, .int a3)] []
  refine GG.iload_n C dX6_quarrel_0 1 rfl ?_
  refine GG.iload_n C dX6_quarrel_1 2 rfl ?_
  obtain ⟨v1, hv1, hf⟩ := obd_some hf
  refine GG.c_X6_302 C rfl (gX6_hasIn hv1) ⟨Nat.le_of_ble_eq_true rfl, Nat.le_of_ble_eq_true rfl⟩ ⟨Nat.le_of_ble_eq_true rfl, Nat.le_of_ble_eq_true rfl⟩ (Nat.le_of_ble_eq_true rfl) dX6_quarrel_2 ?_
  refine GG.if_eq C (tgt := 40) dX6_quarrel_5 (by decide) (fun c2 => ?_) (fun c2 => ?_)
  · have hf := if_t hf c2
    refine GG.iconst C dX6_quarrel_40 ic_0 ?_
    have hf := Option.some.inj hf
    subst hf
    exact GG.zret C zb_0 E dX6_quarrel_41
  · have hf := if_f hf c2
    refine GG.iload_n C dX6_quarrel_8 1 rfl ?_
    refine GG.iload_n C dX6_quarrel_9 3 rfl ?_
    obtain ⟨v3, hv3, hf⟩ := obd_some hf
    refine GG.c_X6_302 C rfl (gX6_hasIn hv3) ⟨Nat.le_of_ble_eq_true rfl, Nat.le_of_ble_eq_true rfl⟩ ⟨Nat.le_of_ble_eq_true rfl, Nat.le_of_ble_eq_true rfl⟩ (Nat.le_of_ble_eq_true rfl) dX6_quarrel_10 ?_
    refine GG.if_eq C (tgt := 40) dX6_quarrel_13 (by decide) (fun c4 => ?_) (fun c4 => ?_)
    · have hf := if_t hf c4
      refine GG.iconst C dX6_quarrel_40 ic_0 ?_
      have hf := Option.some.inj hf
      subst hf
      exact GG.zret C zb_0 E dX6_quarrel_41
    · have hf := if_f hf c4
      refine GG.aload_n C dX6_quarrel_16 0 rfl ?_
      refine GG.iconst C dX6_quarrel_17 ic_0 ?_
      refine GG.iload_n C dX6_quarrel_18 2 rfl ?_
      refine GG.iload_n C dX6_quarrel_19 3 rfl ?_
      obtain ⟨v5, hv5, hf⟩ := obd_some hf
      refine GG.c_X6_262 C rfl (gX6_wouldQuarrel hv5) ⟨Nat.le_of_ble_eq_true rfl, Nat.le_of_ble_eq_true rfl⟩ ⟨Nat.le_of_ble_eq_true rfl, Nat.le_of_ble_eq_true rfl⟩ (Nat.le_of_ble_eq_true rfl) dX6_quarrel_20 ?_
      refine GG.if_eq C (tgt := 40) dX6_quarrel_23 (by decide) (fun c6 => ?_) (fun c6 => ?_)
      · have hf := if_t hf c6
        refine GG.iconst C dX6_quarrel_40 ic_0 ?_
        have hf := Option.some.inj hf
        subst hf
        exact GG.zret C zb_0 E dX6_quarrel_41
      · have hf := if_f hf c6
        refine GG.aload_n C dX6_quarrel_26 0 rfl ?_
        refine GG.iload_n C dX6_quarrel_27 1 rfl ?_
        refine GG.iload_n C dX6_quarrel_28 2 rfl ?_
        refine GG.iload_n C dX6_quarrel_29 3 rfl ?_
        obtain ⟨v7, hv7, hf⟩ := obd_some hf
        refine GG.c_X6_328 C rfl (gX6_isSettled hv7) ⟨Nat.le_of_ble_eq_true rfl, Nat.le_of_ble_eq_true rfl⟩ ⟨Nat.le_of_ble_eq_true rfl, Nat.le_of_ble_eq_true rfl⟩ (Nat.le_of_ble_eq_true rfl) dX6_quarrel_30 ?_
        refine GG.if_ne C (tgt := 40) dX6_quarrel_33 (by decide) (fun c8 => ?_) (fun c8 => ?_)
        · have hf := if_f hf c8
          refine GG.iconst C dX6_quarrel_40 ic_0 ?_
          have hf := Option.some.inj hf
          subst hf
          exact GG.zret C zb_0 E dX6_quarrel_41
        · have hf := if_t hf c8
          refine GG.iconst C dX6_quarrel_36 ic_1 ?_
          refine GG.goto C (tgt := 41) dX6_quarrel_37 (by decide) ?_
          have hf := Option.some.inj hf
          subst hf
          exact GG.zret C zb_1 E dX6_quarrel_41
theorem gX6_quarrelers_5 {K : gK} {X : gX} {M : XS} {S : MS} (C : gC K X cX6_quarrelers 5 yX6_quarrelers (some Jvm.ClassFile.FieldType.int) rX6_quarrelers)  {o : Int32} (E : gE K X (some (.int o)) M (some S) rX6_quarrelers.cells rX6_quarrelers.slots)   :
    ∀ (n : Nat) (a1 : Int32) (a2 : Int32) (a3 : Int32) (a4 : Int32), fX6_quarrelers_5 S n a1 a2 a3 a4 = some o → GG K X 5 0 0 M (some S) 5 [(0, .ref (kh K)), (1, .int a1), (2, .int a2), (3, .int a3), (4, .int a4)] [] := by
  intro n
  induction n with
  | zero => intro a1 a2 a3 a4 hf; cases hf
  | succ n ih =>
    intro a1 a2 a3 a4 hf
    rw [fX6_quarrelers_5] at hf
    refine GG.iload C dX6_quarrelers_5 4 rfl ?_
    refine GG.aload_n C dX6_quarrelers_7 0 rfl ?_
    refine GG.gm20 C rfl dX6_quarrelers_8 ?_
    refine GG.iconst C dX6_quarrelers_11 ic_0 ?_
    obtain ⟨v1, hv1, hf⟩ := obd_some hf
    refine GG.mi C rfl hv1 dX6_quarrelers_12 ?_
    refine GG.icmp_ge C (tgt := 44) dX6_quarrelers_13 (by decide) (fun c2 => ?_) (fun c2 => ?_)
    · have hf := if_t hf c2
      refine GG.iload_n C dX6_quarrelers_44 3 rfl ?_
      have hf := Option.some.inj hf
      subst hf
      exact GG.iret C E dX6_quarrelers_45
    · have hf := if_f hf c2
      refine GG.iload_n C dX6_quarrelers_16 3 rfl ?_
      refine GG.aload_n C dX6_quarrelers_17 0 rfl ?_
      refine GG.iload_n C dX6_quarrelers_18 1 rfl ?_
      refine GG.iload_n C dX6_quarrelers_19 2 rfl ?_
      refine GG.iload C dX6_quarrelers_20 4 rfl ?_
      obtain ⟨v3, hv3, hf⟩ := obd_some hf
      refine GG.c_X6_331 C rfl (gX6_quarrel hv3) ⟨Nat.le_of_ble_eq_true rfl, Nat.le_of_ble_eq_true rfl⟩ ⟨Nat.le_of_ble_eq_true rfl, Nat.le_of_ble_eq_true rfl⟩ (Nat.le_of_ble_eq_true rfl) dX6_quarrelers_22 ?_
      refine GG.if_eq C (tgt := 35) dX6_quarrelers_25 (by decide) (fun c4 => ?_) (fun c4 => ?_)
      · have hf := if_t hf c4
        refine GG.iconst C dX6_quarrelers_35 ic_0 ?_
        refine GG.ior C dX6_quarrelers_36 ?_
        refine GG.topi fun x5 hx5 => ?_
        have hf := ltb_s hx5 hf
        refine GG.istore_n C (lv' := [(3, .int x5), (0, .ref (kh K)), (1, .int a1), (2, .int a2), (4, .int a4)]) dX6_quarrelers_37 (by decide) rfl ?_
        refine GG.iinc C (v := (a4 + (nI 1))) (lv' := [(4, .int (a4 + (nI 1))), (3, .int x5), (0, .ref (kh K)), (1, .int a1), (2, .int a2)]) dX6_quarrelers_38 4 rfl (congrArg (a4 + ·) ic_1) (by decide) rfl ?_
        refine GG.goto C (tgt := 5) dX6_quarrelers_41 (by decide) ?_
        refine GG.sub [2, 3, 4, 1, 0] rfl ?_
        exact ih _ _ _ _ hf
      · have hf := if_f hf c4
        refine GG.iconst C dX6_quarrelers_28 ic_1 ?_
        refine GG.iload C dX6_quarrelers_29 4 rfl ?_
        refine GG.ishl C dX6_quarrelers_31 ?_
        refine GG.goto C (tgt := 36) dX6_quarrelers_32 (by decide) ?_
        refine GG.ior C dX6_quarrelers_36 ?_
        refine GG.topi fun x6 hx6 => ?_
        have hf := ltb_s hx6 hf
        refine GG.istore_n C (lv' := [(3, .int x6), (0, .ref (kh K)), (1, .int a1), (2, .int a2), (4, .int a4)]) dX6_quarrelers_37 (by decide) rfl ?_
        refine GG.iinc C (v := (a4 + (nI 1))) (lv' := [(4, .int (a4 + (nI 1))), (3, .int x6), (0, .ref (kh K)), (1, .int a1), (2, .int a2)]) dX6_quarrelers_38 4 rfl (congrArg (a4 + ·) ic_1) (by decide) rfl ?_
        refine GG.goto C (tgt := 5) dX6_quarrelers_41 (by decide) ?_
        refine GG.sub [2, 3, 4, 1, 0] rfl ?_
        exact ih _ _ _ _ hf
theorem gX6_quarrelers {K : gK} {M : XS}  {S : MS} {a1 : Int32} {a2 : Int32} {o : Int32} (hf : fX6_quarrelers S a1 a2 = some o) : gMet K yX6_quarrelers cX6_quarrelers 5 (some Jvm.ClassFile.FieldType.int) rX6_quarrelers [(.ref (kh K)), (.int a1), (.int a2)] M (some S) (some (.int o)) M (some S) := by
  refine gMet.of pn_X6 (Nat.le_of_ble_eq_true rfl) fun X C E => ?_
  unfold fX6_quarrelers at hf
  show GG K X 5 0 0 M (some S) 0 [(0, .ref (kh K)), (1, .int a1), (2, .int a2)] []
  refine GG.iconst C dX6_quarrelers_0 ic_0 ?_
  refine GG.istore_n C (lv' := [(3, .int (nI 0)), (0, .ref (kh K)), (1, .int a1), (2, .int a2)]) dX6_quarrelers_1 (by decide) rfl ?_
  refine GG.iconst C dX6_quarrelers_2 ic_0 ?_
  refine GG.istore C (lv' := [(4, .int (nI 0)), (3, .int (nI 0)), (0, .ref (kh K)), (1, .int a1), (2, .int a2)]) dX6_quarrelers_3 (by decide) rfl ?_
  refine GG.sub [2, 3, 4, 1, 0] rfl ?_
  exact gX6_quarrelers_5 C E  FU _ _ _ _ hf
theorem gX6_isThere_21 {K : gK} {X : gX} {M : XS} {S : MS} (C : gC K X cX6_isThere 4 yX6_isThere (some Jvm.ClassFile.FieldType.boolean) rX6_isThere)  {o : Int32} (E : gE K X (some (.int o)) M (some S) rX6_isThere.cells rX6_isThere.slots)   :
    ∀ (n : Nat) (a1 : Int32) (a2 : Int32) (a3 : Int32), fX6_isThere_21 S n a1 a2 a3 = some o → GG K X 4 0 0 M (some S) 21 [(0, .ref (kh K)), (1, .int a1), (2, .int a2), (3, .int a3)] [] := by
  intro n
  induction n with
  | zero => intro a1 a2 a3 hf; cases hf
  | succ n ih =>
    intro a1 a2 a3 hf
    rw [fX6_isThere_21] at hf
    refine GG.iload_n C dX6_isThere_21 3 rfl ?_
    refine GG.aload_n C dX6_isThere_22 0 rfl ?_
    refine GG.gm20 C rfl dX6_isThere_23 ?_
    refine GG.iconst C dX6_isThere_26 ic_0 ?_
    obtain ⟨v5, hv5, hf⟩ := obd_some hf
    refine GG.mi C rfl hv5 dX6_isThere_27 ?_
    refine GG.icmp_ge C (tgt := 85) dX6_isThere_28 (by decide) (fun c6 => ?_) (fun c6 => ?_)
    · have hf := if_t hf c6
      refine GG.iconst C dX6_isThere_85 ic_1 ?_
      have hf := Option.some.inj hf
      subst hf
      exact GG.zret C zb_1 E dX6_isThere_86
    · have hf := if_f hf c6
      refine GG.iload_n C dX6_isThere_31 1 rfl ?_
      refine GG.iload_n C dX6_isThere_32 3 rfl ?_
      obtain ⟨v7, hv7, hf⟩ := obd_some hf
      refine GG.c_X6_302 C rfl (gX6_hasIn hv7) ⟨Nat.le_of_ble_eq_true rfl, Nat.le_of_ble_eq_true rfl⟩ ⟨Nat.le_of_ble_eq_true rfl, Nat.le_of_ble_eq_true rfl⟩ (Nat.le_of_ble_eq_true rfl) dX6_isThere_33 ?_
      refine GG.if_eq C (tgt := 79) dX6_isThere_36 (by decide) (fun c8 => ?_) (fun c8 => ?_)
      · have hf := if_t hf c8
        refine GG.iinc C (v := (a3 + (nI 1))) (lv' := [(3, .int (a3 + (nI 1))), (0, .ref (kh K)), (1, .int a1), (2, .int a2)]) dX6_isThere_79 3 rfl (congrArg (a3 + ·) ic_1) (by decide) rfl ?_
        refine GG.goto C (tgt := 21) dX6_isThere_82 (by decide) ?_
        refine GG.sub [1, 2, 3, 0] rfl ?_
        exact ih _ _ _ hf
      · have hf := if_f hf c8
        refine GG.aload_n C dX6_isThere_39 0 rfl ?_
        refine GG.iconst C dX6_isThere_40 ic_0 ?_
        refine GG.iload_n C dX6_isThere_41 3 rfl ?_
        obtain ⟨v9, hv9, hf⟩ := obd_some hf
        refine GG.c_X6_239 C rfl (gX6_kind hv9) ⟨Nat.le_of_ble_eq_true rfl, Nat.le_of_ble_eq_true rfl⟩ ⟨Nat.le_of_ble_eq_true rfl, Nat.le_of_ble_eq_true rfl⟩ (Nat.le_of_ble_eq_true rfl) dX6_isThere_42 ?_
        refine GG.iconst C dX6_isThere_45 ic_1 ?_
        refine GG.icmp_ne C (tgt := 79) dX6_isThere_46 (by decide) (fun c10 => ?_) (fun c10 => ?_)
        · have hf := if_f hf c10
          refine GG.iinc C (v := (a3 + (nI 1))) (lv' := [(3, .int (a3 + (nI 1))), (0, .ref (kh K)), (1, .int a1), (2, .int a2)]) dX6_isThere_79 3 rfl (congrArg (a3 + ·) ic_1) (by decide) rfl ?_
          refine GG.goto C (tgt := 21) dX6_isThere_82 (by decide) ?_
          refine GG.sub [1, 2, 3, 0] rfl ?_
          exact ih _ _ _ hf
        · have hf := if_t hf c10
          refine GG.aload_n C dX6_isThere_49 0 rfl ?_
          refine GG.iconst C dX6_isThere_50 ic_0 ?_
          refine GG.iload_n C dX6_isThere_51 3 rfl ?_
          obtain ⟨v11, hv11, hf⟩ := obd_some hf
          refine GG.c_X6_246 C rfl (gX6_thingOf hv11) ⟨Nat.le_of_ble_eq_true rfl, Nat.le_of_ble_eq_true rfl⟩ ⟨Nat.le_of_ble_eq_true rfl, Nat.le_of_ble_eq_true rfl⟩ (Nat.le_of_ble_eq_true rfl) dX6_isThere_52 ?_
          refine GG.iload_n C dX6_isThere_55 2 rfl ?_
          refine GG.icmp_ne C (tgt := 79) dX6_isThere_56 (by decide) (fun c12 => ?_) (fun c12 => ?_)
          · have hf := if_f hf c12
            refine GG.iinc C (v := (a3 + (nI 1))) (lv' := [(3, .int (a3 + (nI 1))), (0, .ref (kh K)), (1, .int a1), (2, .int a2)]) dX6_isThere_79 3 rfl (congrArg (a3 + ·) ic_1) (by decide) rfl ?_
            refine GG.goto C (tgt := 21) dX6_isThere_82 (by decide) ?_
            refine GG.sub [1, 2, 3, 0] rfl ?_
            exact ih _ _ _ hf
          · have hf := if_t hf c12
            refine GG.aload_n C dX6_isThere_59 0 rfl ?_
            refine GG.iload_n C dX6_isThere_60 1 rfl ?_
            refine GG.iload_n C dX6_isThere_61 3 rfl ?_
            obtain ⟨v13, hv13, hf⟩ := obd_some hf
            refine GG.c_X6_337 C rfl (gX6_isLeftOut hv13) ⟨Nat.le_of_ble_eq_true rfl, Nat.le_of_ble_eq_true rfl⟩ ⟨Nat.le_of_ble_eq_true rfl, Nat.le_of_ble_eq_true rfl⟩ (Nat.le_of_ble_eq_true rfl) dX6_isThere_62 ?_
            refine GG.if_ne C (tgt := 79) dX6_isThere_65 (by decide) (fun c14 => ?_) (fun c14 => ?_)
            · have hf := if_f hf c14
              refine GG.iinc C (v := (a3 + (nI 1))) (lv' := [(3, .int (a3 + (nI 1))), (0, .ref (kh K)), (1, .int a1), (2, .int a2)]) dX6_isThere_79 3 rfl (congrArg (a3 + ·) ic_1) (by decide) rfl ?_
              refine GG.goto C (tgt := 21) dX6_isThere_82 (by decide) ?_
              refine GG.sub [1, 2, 3, 0] rfl ?_
              exact ih _ _ _ hf
            · have hf := if_t hf c14
              refine GG.aload_n C dX6_isThere_68 0 rfl ?_
              refine GG.iload_n C dX6_isThere_69 1 rfl ?_
              refine GG.iload_n C dX6_isThere_70 3 rfl ?_
              obtain ⟨v15, hv15, hf⟩ := obd_some hf
              refine GG.c_X6_334 C rfl (gX6_quarrelers hv15) ⟨Nat.le_of_ble_eq_true rfl, Nat.le_of_ble_eq_true rfl⟩ ⟨Nat.le_of_ble_eq_true rfl, Nat.le_of_ble_eq_true rfl⟩ (Nat.le_of_ble_eq_true rfl) dX6_isThere_71 ?_
              refine GG.if_ne C (tgt := 79) dX6_isThere_74 (by decide) (fun c16 => ?_) (fun c16 => ?_)
              · have hf := if_f hf c16
                refine GG.iinc C (v := (a3 + (nI 1))) (lv' := [(3, .int (a3 + (nI 1))), (0, .ref (kh K)), (1, .int a1), (2, .int a2)]) dX6_isThere_79 3 rfl (congrArg (a3 + ·) ic_1) (by decide) rfl ?_
                refine GG.goto C (tgt := 21) dX6_isThere_82 (by decide) ?_
                refine GG.sub [1, 2, 3, 0] rfl ?_
                exact ih _ _ _ hf
              · have hf := if_t hf c16
                refine GG.iconst C dX6_isThere_77 ic_0 ?_
                have hf := Option.some.inj hf
                subst hf
                exact GG.zret C zb_0 E dX6_isThere_78
theorem gX6_isThere {K : gK} {M : XS}  {S : MS} {a1 : Int32} {a2 : Int32} {o : Int32} (hf : fX6_isThere S a1 a2 = some o) : gMet K yX6_isThere cX6_isThere 4 (some Jvm.ClassFile.FieldType.boolean) rX6_isThere [(.ref (kh K)), (.int a1), (.int a2)] M (some S) (some (.int o)) M (some S) := by
  refine gMet.of pn_X6 (Nat.le_of_ble_eq_true rfl) fun X C E => ?_
  unfold fX6_isThere at hf
  show GG K X 4 0 0 M (some S) 0 [(0, .ref (kh K)), (1, .int a1), (2, .int a2)] []
  refine GG.iload_n C dX6_isThere_0 1 rfl ?_
  refine GG.iload_n C dX6_isThere_1 2 rfl ?_
  obtain ⟨v1, hv1, hf⟩ := obd_some hf
  refine GG.c_X6_302 C rfl (gX6_hasIn hv1) ⟨Nat.le_of_ble_eq_true rfl, Nat.le_of_ble_eq_true rfl⟩ ⟨Nat.le_of_ble_eq_true rfl, Nat.le_of_ble_eq_true rfl⟩ (Nat.le_of_ble_eq_true rfl) dX6_isThere_2 ?_
  refine GG.if_eq C (tgt := 17) dX6_isThere_5 (by decide) (fun c2 => ?_) (fun c2 => ?_)
  · have hf := if_t hf c2
    refine GG.iconst C dX6_isThere_17 ic_0 ?_
    have hf := Option.some.inj hf
    subst hf
    exact GG.zret C zb_0 E dX6_isThere_18
  · have hf := if_f hf c2
    refine GG.aload_n C dX6_isThere_8 0 rfl ?_
    refine GG.iconst C dX6_isThere_9 ic_0 ?_
    refine GG.iload_n C dX6_isThere_10 2 rfl ?_
    obtain ⟨v3, hv3, hf⟩ := obd_some hf
    refine GG.c_X6_239 C rfl (gX6_kind hv3) ⟨Nat.le_of_ble_eq_true rfl, Nat.le_of_ble_eq_true rfl⟩ ⟨Nat.le_of_ble_eq_true rfl, Nat.le_of_ble_eq_true rfl⟩ (Nat.le_of_ble_eq_true rfl) dX6_isThere_11 ?_
    refine GG.if_eq C (tgt := 19) dX6_isThere_14 (by decide) (fun c4 => ?_) (fun c4 => ?_)
    · have hf := if_t hf c4
      refine GG.iconst C dX6_isThere_19 ic_0 ?_
      refine GG.istore_n C (lv' := [(3, .int (nI 0)), (0, .ref (kh K)), (1, .int a1), (2, .int a2)]) dX6_isThere_20 (by decide) rfl ?_
      refine GG.sub [1, 2, 3, 0] rfl ?_
      exact gX6_isThere_21 C E  FU _ _ _ hf
    · have hf := if_f hf c4
      refine GG.iconst C dX6_isThere_17 ic_0 ?_
      have hf := Option.some.inj hf
      subst hf
      exact GG.zret C zb_0 E dX6_isThere_18
theorem gX6_allHang_2 {K : gK} {X : gX} {M : XS} {S : MS} (C : gC K X cX6_allHang 4 yX6_allHang (some Jvm.ClassFile.FieldType.boolean) rX6_allHang)  {o : Int32} (E : gE K X (some (.int o)) M (some S) rX6_allHang.cells rX6_allHang.slots)   :
    ∀ (n : Nat) (a1 : Int32) (a2 : Int32) (a3 : Int32), fX6_allHang_2 S n a1 a2 a3 = some o → GG K X 4 0 0 M (some S) 2 [(0, .ref (kh K)), (1, .int a1), (2, .int a2), (3, .int a3)] [] := by
  intro n
  induction n with
  | zero => intro a1 a2 a3 hf; cases hf
  | succ n ih =>
    intro a1 a2 a3 hf
    rw [fX6_allHang_2] at hf
    refine GG.iload_n C dX6_allHang_2 3 rfl ?_
    refine GG.aload_n C dX6_allHang_3 0 rfl ?_
    refine GG.gm20 C rfl dX6_allHang_4 ?_
    refine GG.iconst C dX6_allHang_7 ic_0 ?_
    obtain ⟨v1, hv1, hf⟩ := obd_some hf
    refine GG.mi C rfl hv1 dX6_allHang_8 ?_
    refine GG.icmp_ge C (tgt := 41) dX6_allHang_9 (by decide) (fun c2 => ?_) (fun c2 => ?_)
    · have hf := if_t hf c2
      refine GG.iconst C dX6_allHang_41 ic_1 ?_
      have hf := Option.some.inj hf
      subst hf
      exact GG.zret C zb_1 E dX6_allHang_42
    · have hf := if_f hf c2
      refine GG.iload_n C dX6_allHang_12 1 rfl ?_
      refine GG.iload_n C dX6_allHang_13 3 rfl ?_
      obtain ⟨v3, hv3, hf⟩ := obd_some hf
      refine GG.c_X6_302 C rfl (gX6_hasIn hv3) ⟨Nat.le_of_ble_eq_true rfl, Nat.le_of_ble_eq_true rfl⟩ ⟨Nat.le_of_ble_eq_true rfl, Nat.le_of_ble_eq_true rfl⟩ (Nat.le_of_ble_eq_true rfl) dX6_allHang_14 ?_
      refine GG.if_eq C (tgt := 35) dX6_allHang_17 (by decide) (fun c4 => ?_) (fun c4 => ?_)
      · have hf := if_t hf c4
        refine GG.iinc C (v := (a3 + (nI 1))) (lv' := [(3, .int (a3 + (nI 1))), (0, .ref (kh K)), (1, .int a1), (2, .int a2)]) dX6_allHang_35 3 rfl (congrArg (a3 + ·) ic_1) (by decide) rfl ?_
        refine GG.goto C (tgt := 2) dX6_allHang_38 (by decide) ?_
        refine GG.sub [1, 2, 3, 0] rfl ?_
        exact ih _ _ _ hf
      · have hf := if_f hf c4
        refine GG.aload_n C dX6_allHang_20 0 rfl ?_
        refine GG.iconst C dX6_allHang_21 ic_0 ?_
        refine GG.iload_n C dX6_allHang_22 3 rfl ?_
        obtain ⟨v5, hv5, hf⟩ := obd_some hf
        refine GG.c_X6_249 C rfl (gX6_hangsOn hv5) ⟨Nat.le_of_ble_eq_true rfl, Nat.le_of_ble_eq_true rfl⟩ ⟨Nat.le_of_ble_eq_true rfl, Nat.le_of_ble_eq_true rfl⟩ (Nat.le_of_ble_eq_true rfl) dX6_allHang_23 ?_
        refine GG.iload_n C dX6_allHang_26 2 rfl ?_
        obtain ⟨v6, hv6, hf⟩ := obd_some hf
        refine GG.c_X6_302 C rfl (gX6_hasIn hv6) ⟨Nat.le_of_ble_eq_true rfl, Nat.le_of_ble_eq_true rfl⟩ ⟨Nat.le_of_ble_eq_true rfl, Nat.le_of_ble_eq_true rfl⟩ (Nat.le_of_ble_eq_true rfl) dX6_allHang_27 ?_
        refine GG.if_ne C (tgt := 35) dX6_allHang_30 (by decide) (fun c7 => ?_) (fun c7 => ?_)
        · have hf := if_f hf c7
          refine GG.iinc C (v := (a3 + (nI 1))) (lv' := [(3, .int (a3 + (nI 1))), (0, .ref (kh K)), (1, .int a1), (2, .int a2)]) dX6_allHang_35 3 rfl (congrArg (a3 + ·) ic_1) (by decide) rfl ?_
          refine GG.goto C (tgt := 2) dX6_allHang_38 (by decide) ?_
          refine GG.sub [1, 2, 3, 0] rfl ?_
          exact ih _ _ _ hf
        · have hf := if_t hf c7
          refine GG.iconst C dX6_allHang_33 ic_0 ?_
          have hf := Option.some.inj hf
          subst hf
          exact GG.zret C zb_0 E dX6_allHang_34
theorem gX6_allHang {K : gK} {M : XS}  {S : MS} {a1 : Int32} {a2 : Int32} {o : Int32} (hf : fX6_allHang S a1 a2 = some o) : gMet K yX6_allHang cX6_allHang 4 (some Jvm.ClassFile.FieldType.boolean) rX6_allHang [(.ref (kh K)), (.int a1), (.int a2)] M (some S) (some (.int o)) M (some S) := by
  refine gMet.of pn_X6 (Nat.le_of_ble_eq_true rfl) fun X C E => ?_
  unfold fX6_allHang at hf
  show GG K X 4 0 0 M (some S) 0 [(0, .ref (kh K)), (1, .int a1), (2, .int a2)] []
  refine GG.iconst C dX6_allHang_0 ic_0 ?_
  refine GG.istore_n C (lv' := [(3, .int (nI 0)), (0, .ref (kh K)), (1, .int a1), (2, .int a2)]) dX6_allHang_1 (by decide) rfl ?_
  refine GG.sub [1, 2, 3, 0] rfl ?_
  exact gX6_allHang_2 C E  FU _ _ _ hf
theorem gX6_toldBy_116 {K : gK} {X : gX} {M : XS} {S : MS} (C : gC K X cX6_toldBy 10 yX6_toldBy (some Jvm.ClassFile.FieldType.int) rX6_toldBy)  {o : Int32} (E : gE K X (some (.int o)) M (some S) rX6_toldBy.cells rX6_toldBy.slots) {k93 : Int32 → Int32 → Int32 → Int32 → Int32 → Option Int32} (hk93 : ∀ (a2 : Int32) (a4 : Int32) (a5 : Int32) (a6 : Int32) (a7 : Int32), k93 a2 a4 a5 a6 a7 = some o → GG K X 10 0 0 M (some S) 93 [(0, .ref (kh K)), (2, .int a2), (4, .int a4), (5, .int a5), (6, .int a6), (7, .int a7)] []) :
    ∀ (n : Nat) (a2 : Int32) (a4 : Int32) (a5 : Int32) (a6 : Int32) (a7 : Int32) (a8 : Int32) (a9 : Int32), fX6_toldBy_116 S k93 n a2 a4 a5 a6 a7 a8 a9 = some o → GG K X 10 0 0 M (some S) 116 [(0, .ref (kh K)), (2, .int a2), (4, .int a4), (5, .int a5), (6, .int a6), (7, .int a7), (8, .int a8), (9, .int a9)] [] := by
  intro n
  induction n with
  | zero => intro a2 a4 a5 a6 a7 a8 a9 hf; cases hf
  | succ n ih =>
    intro a2 a4 a5 a6 a7 a8 a9 hf
    rw [fX6_toldBy_116] at hf
    refine GG.iload C dX6_toldBy_116 7 rfl ?_
    refine GG.aload_n C dX6_toldBy_118 0 rfl ?_
    refine GG.gm20 C rfl dX6_toldBy_119 ?_
    refine GG.iconst C dX6_toldBy_122 ic_0 ?_
    obtain ⟨v18, hv18, hf⟩ := obd_some hf
    refine GG.mi C rfl hv18 dX6_toldBy_123 ?_
    refine GG.icmp_ge C (tgt := 170) dX6_toldBy_124 (by decide) (fun c19 => ?_) (fun c19 => ?_)
    · have hf := if_t hf c19
      refine GG.iload C dX6_toldBy_170 4 rfl ?_
      refine GG.iload C dX6_toldBy_172 6 rfl ?_
      refine GG.if_eq C (tgt := 184) dX6_toldBy_174 (by decide) (fun c20 => ?_) (fun c20 => ?_)
      · have hf := if_t hf c20
        refine GG.iconst C dX6_toldBy_184 ic_0 ?_
        refine GG.ior C dX6_toldBy_185 ?_
        refine GG.topi fun x21 hx21 => ?_
        have hf := ltb_s hx21 hf
        refine GG.istore C (lv' := [(6, .int x21), (0, .ref (kh K)), (2, .int a2), (4, .int a4), (5, .int a5), (7, .int a7), (8, .int a8), (9, .int a9)]) dX6_toldBy_186 (by decide) rfl ?_
        refine GG.iinc C (v := (a7 + (nI 1))) (lv' := [(7, .int (a7 + (nI 1))), (6, .int x21), (0, .ref (kh K)), (2, .int a2), (4, .int a4), (5, .int a5), (8, .int a8), (9, .int a9)]) dX6_toldBy_188 5 rfl (congrArg (a7 + ·) ic_1) (by decide) rfl ?_
        refine GG.goto C (tgt := 93) dX6_toldBy_191 (by decide) ?_
        refine GG.sub [2, 3, 4, 5, 1, 0] rfl ?_
        exact hk93 _ _ _ _ _ hf
      · have hf := if_f hf c20
        refine GG.iconst C dX6_toldBy_177 ic_1 ?_
        refine GG.iload C dX6_toldBy_178 5 rfl ?_
        refine GG.ishl C dX6_toldBy_180 ?_
        refine GG.goto C (tgt := 185) dX6_toldBy_181 (by decide) ?_
        refine GG.ior C dX6_toldBy_185 ?_
        refine GG.topi fun x22 hx22 => ?_
        have hf := ltb_s hx22 hf
        refine GG.istore C (lv' := [(6, .int x22), (0, .ref (kh K)), (2, .int a2), (4, .int a4), (5, .int a5), (7, .int a7), (8, .int a8), (9, .int a9)]) dX6_toldBy_186 (by decide) rfl ?_
        refine GG.iinc C (v := (a7 + (nI 1))) (lv' := [(7, .int (a7 + (nI 1))), (6, .int x22), (0, .ref (kh K)), (2, .int a2), (4, .int a4), (5, .int a5), (8, .int a8), (9, .int a9)]) dX6_toldBy_188 5 rfl (congrArg (a7 + ·) ic_1) (by decide) rfl ?_
        refine GG.goto C (tgt := 93) dX6_toldBy_191 (by decide) ?_
        refine GG.sub [2, 3, 4, 5, 1, 0] rfl ?_
        exact hk93 _ _ _ _ _ hf
    · have hf := if_f hf c19
      refine GG.iload C dX6_toldBy_127 6 rfl ?_
      refine GG.if_eq C (tgt := 161) dX6_toldBy_129 (by decide) (fun c23 => ?_) (fun c23 => ?_)
      · have hf := if_t hf c23
        refine GG.iconst C dX6_toldBy_161 ic_0 ?_
        refine GG.istore C (lv' := [(8, .int (nI 0)), (0, .ref (kh K)), (2, .int a2), (4, .int a4), (5, .int a5), (6, .int a6), (7, .int a7), (9, .int a9)]) dX6_toldBy_162 (by decide) rfl ?_
        refine GG.iinc C (v := (a9 + (nI 1))) (lv' := [(9, .int (a9 + (nI 1))), (8, .int (nI 0)), (0, .ref (kh K)), (2, .int a2), (4, .int a4), (5, .int a5), (6, .int a6), (7, .int a7)]) dX6_toldBy_164 7 rfl (congrArg (a9 + ·) ic_1) (by decide) rfl ?_
        refine GG.goto C (tgt := 116) dX6_toldBy_167 (by decide) ?_
        refine GG.sub [2, 3, 4, 5, 6, 7, 1, 0] rfl ?_
        exact ih _ _ _ _ _ _ _ hf
      · have hf := if_f hf c23
        refine GG.iload C dX6_toldBy_132 3 rfl ?_
        refine GG.iload C dX6_toldBy_134 7 rfl ?_
        obtain ⟨v24, hv24, hf⟩ := obd_some hf
        refine GG.c_X6_302 C rfl (gX6_hasIn hv24) ⟨Nat.le_of_ble_eq_true rfl, Nat.le_of_ble_eq_true rfl⟩ ⟨Nat.le_of_ble_eq_true rfl, Nat.le_of_ble_eq_true rfl⟩ (Nat.le_of_ble_eq_true rfl) dX6_toldBy_136 ?_
        refine GG.if_eq C (tgt := 157) dX6_toldBy_139 (by decide) (fun c25 => ?_) (fun c25 => ?_)
        · have hf := if_t hf c25
          refine GG.iconst C dX6_toldBy_157 ic_1 ?_
          refine GG.goto C (tgt := 162) dX6_toldBy_158 (by decide) ?_
          refine GG.istore C (lv' := [(8, .int (nI 1)), (0, .ref (kh K)), (2, .int a2), (4, .int a4), (5, .int a5), (6, .int a6), (7, .int a7), (9, .int a9)]) dX6_toldBy_162 (by decide) rfl ?_
          refine GG.iinc C (v := (a9 + (nI 1))) (lv' := [(9, .int (a9 + (nI 1))), (8, .int (nI 1)), (0, .ref (kh K)), (2, .int a2), (4, .int a4), (5, .int a5), (6, .int a6), (7, .int a7)]) dX6_toldBy_164 7 rfl (congrArg (a9 + ·) ic_1) (by decide) rfl ?_
          refine GG.goto C (tgt := 116) dX6_toldBy_167 (by decide) ?_
          refine GG.sub [2, 3, 4, 5, 6, 7, 1, 0] rfl ?_
          exact ih _ _ _ _ _ _ _ hf
        · have hf := if_f hf c25
          refine GG.aload_n C dX6_toldBy_142 0 rfl ?_
          refine GG.iconst C dX6_toldBy_143 ic_0 ?_
          refine GG.iload C dX6_toldBy_144 7 rfl ?_
          obtain ⟨v26, hv26, hf⟩ := obd_some hf
          refine GG.c_X6_249 C rfl (gX6_hangsOn hv26) ⟨Nat.le_of_ble_eq_true rfl, Nat.le_of_ble_eq_true rfl⟩ ⟨Nat.le_of_ble_eq_true rfl, Nat.le_of_ble_eq_true rfl⟩ (Nat.le_of_ble_eq_true rfl) dX6_toldBy_146 ?_
          refine GG.iload C dX6_toldBy_149 5 rfl ?_
          obtain ⟨v27, hv27, hf⟩ := obd_some hf
          refine GG.c_X6_302 C rfl (gX6_hasIn hv27) ⟨Nat.le_of_ble_eq_true rfl, Nat.le_of_ble_eq_true rfl⟩ ⟨Nat.le_of_ble_eq_true rfl, Nat.le_of_ble_eq_true rfl⟩ (Nat.le_of_ble_eq_true rfl) dX6_toldBy_151 ?_
          refine GG.if_ne C (tgt := 161) dX6_toldBy_154 (by decide) (fun c28 => ?_) (fun c28 => ?_)
          · have hf := if_f hf c28
            refine GG.iconst C dX6_toldBy_161 ic_0 ?_
            refine GG.istore C (lv' := [(8, .int (nI 0)), (0, .ref (kh K)), (2, .int a2), (4, .int a4), (5, .int a5), (6, .int a6), (7, .int a7), (9, .int a9)]) dX6_toldBy_162 (by decide) rfl ?_
            refine GG.iinc C (v := (a9 + (nI 1))) (lv' := [(9, .int (a9 + (nI 1))), (8, .int (nI 0)), (0, .ref (kh K)), (2, .int a2), (4, .int a4), (5, .int a5), (6, .int a6), (7, .int a7)]) dX6_toldBy_164 7 rfl (congrArg (a9 + ·) ic_1) (by decide) rfl ?_
            refine GG.goto C (tgt := 116) dX6_toldBy_167 (by decide) ?_
            refine GG.sub [2, 3, 4, 5, 6, 7, 1, 0] rfl ?_
            exact ih _ _ _ _ _ _ _ hf
          · have hf := if_t hf c28
            refine GG.iconst C dX6_toldBy_157 ic_1 ?_
            refine GG.goto C (tgt := 162) dX6_toldBy_158 (by decide) ?_
            refine GG.istore C (lv' := [(8, .int (nI 1)), (0, .ref (kh K)), (2, .int a2), (4, .int a4), (5, .int a5), (6, .int a6), (7, .int a7), (9, .int a9)]) dX6_toldBy_162 (by decide) rfl ?_
            refine GG.iinc C (v := (a9 + (nI 1))) (lv' := [(9, .int (a9 + (nI 1))), (8, .int (nI 1)), (0, .ref (kh K)), (2, .int a2), (4, .int a4), (5, .int a5), (6, .int a6), (7, .int a7)]) dX6_toldBy_164 7 rfl (congrArg (a9 + ·) ic_1) (by decide) rfl ?_
            refine GG.goto C (tgt := 116) dX6_toldBy_167 (by decide) ?_
            refine GG.sub [2, 3, 4, 5, 6, 7, 1, 0] rfl ?_
            exact ih _ _ _ _ _ _ _ hf
theorem gX6_toldBy_263 {K : gK} {X : gX} {M : XS} {S : MS} (C : gC K X cX6_toldBy 10 yX6_toldBy (some Jvm.ClassFile.FieldType.int) rX6_toldBy)  {o : Int32} (E : gE K X (some (.int o)) M (some S) rX6_toldBy.cells rX6_toldBy.slots) {k215 : Int32 → Int32 → Int32 → Int32 → Int32 → Int32 → Option Int32} (hk215 : ∀ (a2 : Int32) (a4 : Int32) (a5 : Int32) (a6 : Int32) (a7 : Int32) (a8 : Int32), k215 a2 a4 a5 a6 a7 a8 = some o → GG K X 10 0 0 M (some S) 215 [(0, .ref (kh K)), (2, .int a2), (4, .int a4), (5, .int a5), (6, .int a6), (7, .int a7), (8, .int a8)] []) :
    ∀ (a2 : Int32) (a4 : Int32) (a5 : Int32) (a6 : Int32) (a7 : Int32) (a8 : Int32), fX6_toldBy_263 S k215 a2 a4 a5 a6 a7 a8 = some o → GG K X 10 0 0 M (some S) 263 [(0, .ref (kh K)), (2, .int a2), (4, .int a4), (5, .int a5), (6, .int a6), (7, .int a7), (8, .int a8)] [] := by
  intro a2 a4 a5 a6 a7 a8 hf
  unfold fX6_toldBy_263 at hf
  refine GG.aload_n C dX6_toldBy_263 0 rfl ?_
  refine GG.iload C dX6_toldBy_264 4 rfl ?_
  refine GG.iload C dX6_toldBy_266 6 rfl ?_
  obtain ⟨v38, hv38, hf⟩ := obd_some hf
  refine GG.c_X6_340 C rfl (gX6_allHang hv38) ⟨Nat.le_of_ble_eq_true rfl, Nat.le_of_ble_eq_true rfl⟩ ⟨Nat.le_of_ble_eq_true rfl, Nat.le_of_ble_eq_true rfl⟩ (Nat.le_of_ble_eq_true rfl) dX6_toldBy_268 ?_
  refine GG.if_eq C (tgt := 278) dX6_toldBy_271 (by decide) (fun c39 => ?_) (fun c39 => ?_)
  · have hf := if_t hf c39
    refine GG.iinc C (v := (a8 + (nI 1))) (lv' := [(8, .int (a8 + (nI 1))), (0, .ref (kh K)), (2, .int a2), (4, .int a4), (5, .int a5), (6, .int a6), (7, .int a7)]) dX6_toldBy_278 6 rfl (congrArg (a8 + ·) ic_1) (by decide) rfl ?_
    refine GG.goto C (tgt := 215) dX6_toldBy_281 (by decide) ?_
    refine GG.sub [1, 2, 3, 4, 5, 6, 0] rfl ?_
    exact hk215 _ _ _ _ _ _ hf
  · have hf := if_f hf c39
    refine GG.iload C dX6_toldBy_274 6 rfl ?_
    refine GG.istore C (lv' := [(7, .int a8), (0, .ref (kh K)), (2, .int a2), (4, .int a4), (5, .int a5), (6, .int a6), (8, .int a8)]) dX6_toldBy_276 (by decide) rfl ?_
    refine GG.iinc C (v := (a8 + (nI 1))) (lv' := [(8, .int (a8 + (nI 1))), (7, .int a8), (0, .ref (kh K)), (2, .int a2), (4, .int a4), (5, .int a5), (6, .int a6)]) dX6_toldBy_278 6 rfl (congrArg (a8 + ·) ic_1) (by decide) rfl ?_
    refine GG.goto C (tgt := 215) dX6_toldBy_281 (by decide) ?_
    refine GG.sub [2, 3, 4, 5, 6, 1, 0] rfl ?_
    exact hk215 _ _ _ _ _ _ hf
theorem gX6_toldBy_215 {K : gK} {X : gX} {M : XS} {S : MS} (C : gC K X cX6_toldBy 10 yX6_toldBy (some Jvm.ClassFile.FieldType.int) rX6_toldBy)  {o : Int32} (E : gE K X (some (.int o)) M (some S) rX6_toldBy.cells rX6_toldBy.slots)   :
    ∀ (n : Nat) (a2 : Int32) (a4 : Int32) (a5 : Int32) (a6 : Int32) (a7 : Int32) (a8 : Int32), fX6_toldBy_215 S n a2 a4 a5 a6 a7 a8 = some o → GG K X 10 0 0 M (some S) 215 [(0, .ref (kh K)), (2, .int a2), (4, .int a4), (5, .int a5), (6, .int a6), (7, .int a7), (8, .int a8)] [] := by
  intro n
  induction n with
  | zero => intro a2 a4 a5 a6 a7 a8 hf; cases hf
  | succ n ih =>
    intro a2 a4 a5 a6 a7 a8 hf
    rw [fX6_toldBy_215] at hf
    refine GG.iload C dX6_toldBy_215 6 rfl ?_
    refine GG.aload_n C dX6_toldBy_217 0 rfl ?_
    refine GG.gm20 C rfl dX6_toldBy_218 ?_
    refine GG.iconst C dX6_toldBy_221 ic_0 ?_
    obtain ⟨v29, hv29, hf⟩ := obd_some hf
    refine GG.mi C rfl hv29 dX6_toldBy_222 ?_
    refine GG.icmp_ge C (tgt := 284) dX6_toldBy_223 (by decide) (fun c30 => ?_) (fun c30 => ?_)
    · have hf := if_t hf c30
      refine GG.aload_n C dX6_toldBy_284 0 rfl ?_
      refine GG.gm20 C rfl dX6_toldBy_285 ?_
      refine GG.iload C dX6_toldBy_288 2 rfl ?_
      refine GG.iload C dX6_toldBy_290 5 rfl ?_
      refine GG.iadd C dX6_toldBy_292 ?_
      obtain ⟨v31, hv31, hf⟩ := obd_some hf
      refine GG.mi C rfl hv31 dX6_toldBy_293 ?_
      have hf := Option.some.inj hf
      subst hf
      exact GG.iret C E dX6_toldBy_294
    · have hf := if_f hf c30
      refine GG.iload C dX6_toldBy_226 4 rfl ?_
      obtain ⟨v32, hv32, hf⟩ := obd_some hf
      refine GG.c_X6_325 C rfl (gX6_bits hv32) ⟨Nat.le_of_ble_eq_true rfl, Nat.le_of_ble_eq_true rfl⟩ ⟨Nat.le_of_ble_eq_true rfl, Nat.le_of_ble_eq_true rfl⟩ (Nat.le_of_ble_eq_true rfl) dX6_toldBy_228 ?_
      refine GG.iconst C dX6_toldBy_231 ic_1 ?_
      refine GG.icmp_ne C (tgt := 247) dX6_toldBy_232 (by decide) (fun c33 => ?_) (fun c33 => ?_)
      · have hf := if_f hf c33
        refine GG.iload C dX6_toldBy_247 3 rfl ?_
        refine GG.iload C dX6_toldBy_249 6 rfl ?_
        obtain ⟨v34, hv34, hf⟩ := obd_some hf
        refine GG.c_X6_302 C rfl (gX6_hasIn hv34) ⟨Nat.le_of_ble_eq_true rfl, Nat.le_of_ble_eq_true rfl⟩ ⟨Nat.le_of_ble_eq_true rfl, Nat.le_of_ble_eq_true rfl⟩ (Nat.le_of_ble_eq_true rfl) dX6_toldBy_251 ?_
        refine GG.if_ne C (tgt := 263) dX6_toldBy_254 (by decide) (fun c35 => ?_) (fun c35 => ?_)
        · have hf := if_f hf c35
          refine GG.sub [0, 1, 2, 3, 4, 5, 6] rfl ?_
          exact gX6_toldBy_263 C E (hk215 := ih) _ _ _ _ _ _ hf
        · have hf := if_t hf c35
          refine GG.iload C dX6_toldBy_257 6 rfl ?_
          refine GG.iload_n C dX6_toldBy_259 1 rfl ?_
          refine GG.icmp_ne C (tgt := 278) dX6_toldBy_260 (by decide) (fun c36 => ?_) (fun c36 => ?_)
          · have hf := if_f hf c36
            refine GG.iinc C (v := (a8 + (nI 1))) (lv' := [(8, .int (a8 + (nI 1))), (0, .ref (kh K)), (2, .int a2), (4, .int a4), (5, .int a5), (6, .int a6), (7, .int a7)]) dX6_toldBy_278 6 rfl (congrArg (a8 + ·) ic_1) (by decide) rfl ?_
            refine GG.goto C (tgt := 215) dX6_toldBy_281 (by decide) ?_
            refine GG.sub [1, 2, 3, 4, 5, 6, 0] rfl ?_
            exact ih _ _ _ _ _ _ hf
          · have hf := if_t hf c36
            refine GG.sub [0, 1, 2, 3, 4, 5, 6] rfl ?_
            exact gX6_toldBy_263 C E (hk215 := ih) _ _ _ _ _ _ hf
      · have hf := if_t hf c33
        refine GG.iload C dX6_toldBy_235 4 rfl ?_
        refine GG.iconst C dX6_toldBy_237 ic_1 ?_
        refine GG.iload C dX6_toldBy_238 6 rfl ?_
        refine GG.ishl C dX6_toldBy_240 ?_
        refine GG.icmp_ne C (tgt := 278) dX6_toldBy_241 (by decide) (fun c37 => ?_) (fun c37 => ?_)
        · have hf := if_f hf c37
          refine GG.iinc C (v := (a8 + (nI 1))) (lv' := [(8, .int (a8 + (nI 1))), (0, .ref (kh K)), (2, .int a2), (4, .int a4), (5, .int a5), (6, .int a6), (7, .int a7)]) dX6_toldBy_278 6 rfl (congrArg (a8 + ·) ic_1) (by decide) rfl ?_
          refine GG.goto C (tgt := 215) dX6_toldBy_281 (by decide) ?_
          refine GG.sub [1, 2, 3, 4, 5, 6, 0] rfl ?_
          exact ih _ _ _ _ _ _ hf
        · have hf := if_t hf c37
          refine GG.goto C (tgt := 274) dX6_toldBy_244 (by decide) ?_
          refine GG.iload C dX6_toldBy_274 6 rfl ?_
          refine GG.istore C (lv' := [(7, .int a8), (0, .ref (kh K)), (2, .int a2), (4, .int a4), (5, .int a5), (6, .int a6), (8, .int a8)]) dX6_toldBy_276 (by decide) rfl ?_
          refine GG.iinc C (v := (a8 + (nI 1))) (lv' := [(8, .int (a8 + (nI 1))), (7, .int a8), (0, .ref (kh K)), (2, .int a2), (4, .int a4), (5, .int a5), (6, .int a6)]) dX6_toldBy_278 6 rfl (congrArg (a8 + ·) ic_1) (by decide) rfl ?_
          refine GG.goto C (tgt := 215) dX6_toldBy_281 (by decide) ?_
          refine GG.sub [2, 3, 4, 5, 6, 1, 0] rfl ?_
          exact ih _ _ _ _ _ _ hf
theorem gX6_toldBy_93 {K : gK} {X : gX} {M : XS} {S : MS} (C : gC K X cX6_toldBy 10 yX6_toldBy (some Jvm.ClassFile.FieldType.int) rX6_toldBy)  {o : Int32} (E : gE K X (some (.int o)) M (some S) rX6_toldBy.cells rX6_toldBy.slots)   :
    ∀ (n : Nat) (a2 : Int32) (a4 : Int32) (a5 : Int32) (a6 : Int32) (a7 : Int32), fX6_toldBy_93 S n a2 a4 a5 a6 a7 = some o → GG K X 10 0 0 M (some S) 93 [(0, .ref (kh K)), (2, .int a2), (4, .int a4), (5, .int a5), (6, .int a6), (7, .int a7)] [] := by
  intro n
  induction n with
  | zero => intro a2 a4 a5 a6 a7 hf; cases hf
  | succ n ih =>
    intro a2 a4 a5 a6 a7 hf
    rw [fX6_toldBy_93] at hf
    refine GG.iload C dX6_toldBy_93 5 rfl ?_
    refine GG.aload_n C dX6_toldBy_95 0 rfl ?_
    refine GG.gm20 C rfl dX6_toldBy_96 ?_
    refine GG.iconst C dX6_toldBy_99 ic_0 ?_
    obtain ⟨v13, hv13, hf⟩ := obd_some hf
    refine GG.mi C rfl hv13 dX6_toldBy_100 ?_
    refine GG.icmp_ge C (tgt := 194) dX6_toldBy_101 (by decide) (fun c14 => ?_) (fun c14 => ?_)
    · have hf := if_t hf c14
      refine GG.iload C dX6_toldBy_194 4 rfl ?_
      refine GG.if_ne C (tgt := 209) dX6_toldBy_196 (by decide) (fun c15 => ?_) (fun c15 => ?_)
      · have hf := if_f hf c15
        refine GG.iconst C dX6_toldBy_209 ic_m1 ?_
        refine GG.istore C (lv' := [(7, .int (-1 : Int32)), (0, .ref (kh K)), (2, .int a2), (4, .int a4), (5, .int a5), (6, .int a6)]) dX6_toldBy_210 (by decide) rfl ?_
        refine GG.iconst C dX6_toldBy_212 ic_0 ?_
        refine GG.istore C (lv' := [(8, .int (nI 0)), (7, .int (-1 : Int32)), (0, .ref (kh K)), (2, .int a2), (4, .int a4), (5, .int a5), (6, .int a6)]) dX6_toldBy_213 (by decide) rfl ?_
        refine GG.sub [2, 3, 4, 5, 6, 1, 0] rfl ?_
        exact gX6_toldBy_215 C E  FU _ _ _ _ _ _ hf
      · have hf := if_t hf c15
        refine GG.aload_n C dX6_toldBy_199 0 rfl ?_
        refine GG.gm20 C rfl dX6_toldBy_200 ?_
        refine GG.iload C dX6_toldBy_203 2 rfl ?_
        refine GG.iload_n C dX6_toldBy_205 1 rfl ?_
        refine GG.iadd C dX6_toldBy_206 ?_
        obtain ⟨v16, hv16, hf⟩ := obd_some hf
        refine GG.mi C rfl hv16 dX6_toldBy_207 ?_
        have hf := Option.some.inj hf
        subst hf
        exact GG.iret C E dX6_toldBy_208
    · have hf := if_f hf c14
      refine GG.iload C dX6_toldBy_104 3 rfl ?_
      refine GG.iload C dX6_toldBy_106 5 rfl ?_
      obtain ⟨v17, hv17, hf⟩ := obd_some hf
      refine GG.c_X6_302 C rfl (gX6_hasIn hv17) ⟨Nat.le_of_ble_eq_true rfl, Nat.le_of_ble_eq_true rfl⟩ ⟨Nat.le_of_ble_eq_true rfl, Nat.le_of_ble_eq_true rfl⟩ (Nat.le_of_ble_eq_true rfl) dX6_toldBy_108 ?_
      refine GG.istore C (lv' := [(8, .int v17), (0, .ref (kh K)), (2, .int a2), (4, .int a4), (5, .int a5), (6, .int a6), (7, .int a7)]) dX6_toldBy_111 (by decide) rfl ?_
      refine GG.iconst C dX6_toldBy_113 ic_0 ?_
      refine GG.istore C (lv' := [(9, .int (nI 0)), (8, .int v17), (0, .ref (kh K)), (2, .int a2), (4, .int a4), (5, .int a5), (6, .int a6), (7, .int a7)]) dX6_toldBy_114 (by decide) rfl ?_
      refine GG.sub [2, 3, 4, 5, 6, 7, 1, 0] rfl ?_
      exact gX6_toldBy_116 C E (hk93 := ih) FU _ _ _ _ _ _ _ hf
theorem gX6_toldBy_20 {K : gK} {X : gX} {M : XS} {S : MS} (C : gC K X cX6_toldBy 10 yX6_toldBy (some Jvm.ClassFile.FieldType.int) rX6_toldBy)  {o : Int32} (E : gE K X (some (.int o)) M (some S) rX6_toldBy.cells rX6_toldBy.slots)   :
    ∀ (n : Nat) (a1 : Int32) (a2 : Int32) (a3 : Int32) (a4 : Int32) (a5 : Int32) (a6 : Int32), fX6_toldBy_20 S n a1 a2 a3 a4 a5 a6 = some o → GG K X 10 0 0 M (some S) 20 [(0, .ref (kh K)), (1, .int a1), (2, .int a2), (3, .int a3), (4, .int a4), (5, .int a5), (6, .int a6)] [] := by
  intro n
  induction n with
  | zero => intro a1 a2 a3 a4 a5 a6 hf; cases hf
  | succ n ih =>
    intro a1 a2 a3 a4 a5 a6 hf
    rw [fX6_toldBy_20] at hf
    refine GG.iload C dX6_toldBy_20 6 rfl ?_
    refine GG.aload_n C dX6_toldBy_22 0 rfl ?_
    refine GG.gm20 C rfl dX6_toldBy_23 ?_
    refine GG.iconst C dX6_toldBy_26 ic_0 ?_
    obtain ⟨v2, hv2, hf⟩ := obd_some hf
    refine GG.mi C rfl hv2 dX6_toldBy_27 ?_
    refine GG.icmp_ge C (tgt := 87) dX6_toldBy_28 (by decide) (fun c3 => ?_) (fun c3 => ?_)
    · have hf := if_t hf c3
      refine GG.iconst C dX6_toldBy_87 ic_0 ?_
      refine GG.istore C (lv' := [(6, .int (nI 0)), (0, .ref (kh K)), (1, .int a1), (2, .int a2), (3, .int a3), (4, .int a4), (5, .int a5)]) dX6_toldBy_88 (by decide) rfl ?_
      refine GG.iconst C dX6_toldBy_90 ic_0 ?_
      refine GG.istore C (lv' := [(7, .int (nI 0)), (6, .int (nI 0)), (0, .ref (kh K)), (1, .int a1), (2, .int a2), (3, .int a3), (4, .int a4), (5, .int a5)]) dX6_toldBy_91 (by decide) rfl ?_
      refine GG.sub [2, 4, 6, 7, 1, 0] rfl ?_
      exact gX6_toldBy_93 C E  FU _ _ _ _ _ hf
    · have hf := if_f hf c3
      refine GG.iload_n C dX6_toldBy_31 1 rfl ?_
      refine GG.iload C dX6_toldBy_32 6 rfl ?_
      obtain ⟨v4, hv4, hf⟩ := obd_some hf
      refine GG.c_X6_302 C rfl (gX6_hasIn hv4) ⟨Nat.le_of_ble_eq_true rfl, Nat.le_of_ble_eq_true rfl⟩ ⟨Nat.le_of_ble_eq_true rfl, Nat.le_of_ble_eq_true rfl⟩ (Nat.le_of_ble_eq_true rfl) dX6_toldBy_34 ?_
      refine GG.if_eq C (tgt := 81) dX6_toldBy_37 (by decide) (fun c5 => ?_) (fun c5 => ?_)
      · have hf := if_t hf c5
        refine GG.iinc C (v := (a6 + (nI 1))) (lv' := [(6, .int (a6 + (nI 1))), (0, .ref (kh K)), (1, .int a1), (2, .int a2), (3, .int a3), (4, .int a4), (5, .int a5)]) dX6_toldBy_81 6 rfl (congrArg (a6 + ·) ic_1) (by decide) rfl ?_
        refine GG.goto C (tgt := 20) dX6_toldBy_84 (by decide) ?_
        refine GG.sub [1, 2, 3, 4, 5, 6, 0] rfl ?_
        exact ih _ _ _ _ _ _ hf
      · have hf := if_f hf c5
        refine GG.aload_n C dX6_toldBy_40 0 rfl ?_
        refine GG.iconst C dX6_toldBy_41 ic_0 ?_
        refine GG.iload C dX6_toldBy_42 6 rfl ?_
        obtain ⟨v6, hv6, hf⟩ := obd_some hf
        refine GG.c_X6_239 C rfl (gX6_kind hv6) ⟨Nat.le_of_ble_eq_true rfl, Nat.le_of_ble_eq_true rfl⟩ ⟨Nat.le_of_ble_eq_true rfl, Nat.le_of_ble_eq_true rfl⟩ (Nat.le_of_ble_eq_true rfl) dX6_toldBy_44 ?_
        refine GG.iload_n C dX6_toldBy_47 3 rfl ?_
        refine GG.icmp_ne C (tgt := 81) dX6_toldBy_48 (by decide) (fun c7 => ?_) (fun c7 => ?_)
        · have hf := if_f hf c7
          refine GG.iinc C (v := (a6 + (nI 1))) (lv' := [(6, .int (a6 + (nI 1))), (0, .ref (kh K)), (1, .int a1), (2, .int a2), (3, .int a3), (4, .int a4), (5, .int a5)]) dX6_toldBy_81 6 rfl (congrArg (a6 + ·) ic_1) (by decide) rfl ?_
          refine GG.goto C (tgt := 20) dX6_toldBy_84 (by decide) ?_
          refine GG.sub [1, 2, 3, 4, 5, 6, 0] rfl ?_
          exact ih _ _ _ _ _ _ hf
        · have hf := if_t hf c7
          refine GG.aload_n C dX6_toldBy_51 0 rfl ?_
          refine GG.iconst C dX6_toldBy_52 ic_0 ?_
          refine GG.iload C dX6_toldBy_53 6 rfl ?_
          obtain ⟨v8, hv8, hf⟩ := obd_some hf
          refine GG.c_X6_246 C rfl (gX6_thingOf hv8) ⟨Nat.le_of_ble_eq_true rfl, Nat.le_of_ble_eq_true rfl⟩ ⟨Nat.le_of_ble_eq_true rfl, Nat.le_of_ble_eq_true rfl⟩ (Nat.le_of_ble_eq_true rfl) dX6_toldBy_55 ?_
          refine GG.iload_n C dX6_toldBy_58 2 rfl ?_
          refine GG.icmp_ne C (tgt := 81) dX6_toldBy_59 (by decide) (fun c9 => ?_) (fun c9 => ?_)
          · have hf := if_f hf c9
            refine GG.iinc C (v := (a6 + (nI 1))) (lv' := [(6, .int (a6 + (nI 1))), (0, .ref (kh K)), (1, .int a1), (2, .int a2), (3, .int a3), (4, .int a4), (5, .int a5)]) dX6_toldBy_81 6 rfl (congrArg (a6 + ·) ic_1) (by decide) rfl ?_
            refine GG.goto C (tgt := 20) dX6_toldBy_84 (by decide) ?_
            refine GG.sub [1, 2, 3, 4, 5, 6, 0] rfl ?_
            exact ih _ _ _ _ _ _ hf
          · have hf := if_t hf c9
            refine GG.aload_n C dX6_toldBy_62 0 rfl ?_
            refine GG.iload_n C dX6_toldBy_63 1 rfl ?_
            refine GG.iload C dX6_toldBy_64 6 rfl ?_
            obtain ⟨v10, hv10, hf⟩ := obd_some hf
            refine GG.c_X6_337 C rfl (gX6_isLeftOut hv10) ⟨Nat.le_of_ble_eq_true rfl, Nat.le_of_ble_eq_true rfl⟩ ⟨Nat.le_of_ble_eq_true rfl, Nat.le_of_ble_eq_true rfl⟩ (Nat.le_of_ble_eq_true rfl) dX6_toldBy_66 ?_
            refine GG.if_ne C (tgt := 81) dX6_toldBy_69 (by decide) (fun c11 => ?_) (fun c11 => ?_)
            · have hf := if_f hf c11
              refine GG.iinc C (v := (a6 + (nI 1))) (lv' := [(6, .int (a6 + (nI 1))), (0, .ref (kh K)), (1, .int a1), (2, .int a2), (3, .int a3), (4, .int a4), (5, .int a5)]) dX6_toldBy_81 6 rfl (congrArg (a6 + ·) ic_1) (by decide) rfl ?_
              refine GG.goto C (tgt := 20) dX6_toldBy_84 (by decide) ?_
              refine GG.sub [1, 2, 3, 4, 5, 6, 0] rfl ?_
              exact ih _ _ _ _ _ _ hf
            · have hf := if_t hf c11
              refine GG.iload C dX6_toldBy_72 5 rfl ?_
              refine GG.iconst C dX6_toldBy_74 ic_1 ?_
              refine GG.iload C dX6_toldBy_75 6 rfl ?_
              refine GG.ishl C dX6_toldBy_77 ?_
              refine GG.ior C dX6_toldBy_78 ?_
              refine GG.topi fun x12 hx12 => ?_
              have hf := ltb_s hx12 hf
              refine GG.istore C (lv' := [(5, .int x12), (0, .ref (kh K)), (1, .int a1), (2, .int a2), (3, .int a3), (4, .int a4), (6, .int a6)]) dX6_toldBy_79 (by decide) rfl ?_
              refine GG.iinc C (v := (a6 + (nI 1))) (lv' := [(6, .int (a6 + (nI 1))), (5, .int x12), (0, .ref (kh K)), (1, .int a1), (2, .int a2), (3, .int a3), (4, .int a4)]) dX6_toldBy_81 6 rfl (congrArg (a6 + ·) ic_1) (by decide) rfl ?_
              refine GG.goto C (tgt := 20) dX6_toldBy_84 (by decide) ?_
              refine GG.sub [2, 3, 4, 5, 6, 1, 0] rfl ?_
              exact ih _ _ _ _ _ _ hf
theorem gX6_toldBy {K : gK} {M : XS}  {S : MS} {a1 : Int32} {a2 : Int32} {a3 : Int32} {o : Int32} (hf : fX6_toldBy S a1 a2 a3 = some o) : gMet K yX6_toldBy cX6_toldBy 10 (some Jvm.ClassFile.FieldType.int) rX6_toldBy [(.ref (kh K)), (.int a1), (.int a2), (.int a3)] M (some S) (some (.int o)) M (some S) := by
  refine gMet.of pn_X6 (Nat.le_of_ble_eq_true rfl) fun X C E => ?_
  unfold fX6_toldBy at hf
  show GG K X 10 0 0 M (some S) 0 [(0, .ref (kh K)), (1, .int a1), (2, .int a2), (3, .int a3)] []
  refine GG.iload_n C dX6_toldBy_0 3 rfl ?_
  refine GG.iconst C dX6_toldBy_1 ic_2 ?_
  refine GG.icmp_ne C (tgt := 10) dX6_toldBy_2 (by decide) (fun c1 => ?_) (fun c1 => ?_)
  · have hf := if_f hf c1
    refine GG.bipush C dX6_toldBy_10 bp_18 ?_
    refine GG.istore C (lv' := [(4, .int (nI 18)), (0, .ref (kh K)), (1, .int a1), (2, .int a2), (3, .int a3)]) dX6_toldBy_12 (by decide) rfl ?_
    refine GG.iconst C dX6_toldBy_14 ic_0 ?_
    refine GG.istore C (lv' := [(5, .int (nI 0)), (4, .int (nI 18)), (0, .ref (kh K)), (1, .int a1), (2, .int a2), (3, .int a3)]) dX6_toldBy_15 (by decide) rfl ?_
    refine GG.iconst C dX6_toldBy_17 ic_0 ?_
    refine GG.istore C (lv' := [(6, .int (nI 0)), (5, .int (nI 0)), (4, .int (nI 18)), (0, .ref (kh K)), (1, .int a1), (2, .int a2), (3, .int a3)]) dX6_toldBy_18 (by decide) rfl ?_
    refine GG.sub [3, 4, 5, 6, 2, 1, 0] rfl ?_
    exact gX6_toldBy_20 C E  FU _ _ _ _ _ _ hf
  · have hf := if_t hf c1
    refine GG.bipush C dX6_toldBy_5 bp_34 ?_
    refine GG.goto C (tgt := 12) dX6_toldBy_7 (by decide) ?_
    refine GG.istore C (lv' := [(4, .int (nI 34)), (0, .ref (kh K)), (1, .int a1), (2, .int a2), (3, .int a3)]) dX6_toldBy_12 (by decide) rfl ?_
    refine GG.iconst C dX6_toldBy_14 ic_0 ?_
    refine GG.istore C (lv' := [(5, .int (nI 0)), (4, .int (nI 34)), (0, .ref (kh K)), (1, .int a1), (2, .int a2), (3, .int a3)]) dX6_toldBy_15 (by decide) rfl ?_
    refine GG.iconst C dX6_toldBy_17 ic_0 ?_
    refine GG.istore C (lv' := [(6, .int (nI 0)), (5, .int (nI 0)), (4, .int (nI 34)), (0, .ref (kh K)), (1, .int a1), (2, .int a2), (3, .int a3)]) dX6_toldBy_18 (by decide) rfl ?_
    refine GG.sub [3, 4, 5, 6, 2, 1, 0] rfl ?_
    exact gX6_toldBy_20 C E  FU _ _ _ _ _ _ hf
theorem gX6_listOf_42 {K : gK} {X : gX} {M : XS} (C : gC K X cX6_listOf 7 yX6_listOf (some Jvm.ClassFile.FieldType.int) rX6_listOf)  {o : (Int32 × MS)} (E : gE K X (some (.int o.1)) M (some o.2) rX6_listOf.cells rX6_listOf.slots) {k5 : MS → Int32 → Nat → Int32 → Int32 → Option (Int32 × MS)} (hk5 : ∀ (S : MS) (a1 : Int32) (a2 : Nat) (a3 : Int32) (a4 : Int32), k5 S a1 a2 a3 a4 = some o → GG K X 7 0 0 M (some S) 5 [(0, .ref (kh K)), (1, .int a1), (2, .ref (km K a2)), (3, .int a3), (4, .int a4)] []) :
    ∀ (n : Nat) (S : MS) (a1 : Int32) (a2 : Nat) (a3 : Int32) (a4 : Int32) (a5 : Int32) (a6 : Int32), fX6_listOf_42 k5 n S a1 a2 a3 a4 a5 a6 = some o → GG K X 7 0 0 M (some S) 42 [(0, .ref (kh K)), (1, .int a1), (2, .ref (km K a2)), (3, .int a3), (4, .int a4), (5, .int a5), (6, .int a6)] [] := by
  intro n
  induction n with
  | zero => intro S a1 a2 a3 a4 a5 a6 hf; cases hf
  | succ n ih =>
    intro S a1 a2 a3 a4 a5 a6 hf
    rw [fX6_listOf_42] at hf
    refine GG.iload C dX6_listOf_42 6 rfl ?_
    refine GG.if_le C (tgt := 80) dX6_listOf_44 (by decide) (fun c6 => ?_) (fun c6 => ?_)
    · have hf := if_t hf c6
      refine GG.aload_n C dX6_listOf_80 2 rfl ?_
      refine GG.iload C dX6_listOf_81 6 rfl ?_
      refine GG.iload C dX6_listOf_83 4 rfl ?_
      obtain ⟨c7, hf⟩ := gd_some hf
      obtain ⟨S8, hS8, hf⟩ := obd_some hf
      refine GG.mis C c7 hS8 dX6_listOf_85 ?_
      refine GG.iinc C (v := (a3 + (nI 1))) (lv' := [(3, .int (a3 + (nI 1))), (0, .ref (kh K)), (1, .int a1), (2, .ref (km K a2)), (4, .int a4), (5, .int a5), (6, .int a6)]) dX6_listOf_86 3 rfl (congrArg (a3 + ·) ic_1) (by decide) rfl ?_
      refine GG.iinc C (v := (a4 + (nI 1))) (lv' := [(4, .int (a4 + (nI 1))), (3, .int (a3 + (nI 1))), (0, .ref (kh K)), (1, .int a1), (2, .ref (km K a2)), (5, .int a5), (6, .int a6)]) dX6_listOf_89 4 rfl (congrArg (a4 + ·) ic_1) (by decide) rfl ?_
      refine GG.goto C (tgt := 5) dX6_listOf_92 (by decide) ?_
      refine GG.sub [2, 3, 4, 1, 0] rfl ?_
      exact hk5 _ _ _ _ _ hf
    · have hf := if_f hf c6
      refine GG.aload_n C dX6_listOf_47 0 rfl ?_
      refine GG.iload_n C dX6_listOf_48 1 rfl ?_
      refine GG.aload_n C dX6_listOf_49 2 rfl ?_
      refine GG.iload C dX6_listOf_50 6 rfl ?_
      refine GG.iconst C dX6_listOf_52 ic_1 ?_
      refine GG.isub C dX6_listOf_53 ?_
      obtain ⟨c9, hf⟩ := gd_some hf
      obtain ⟨v10, hv10, hf⟩ := obd_some hf
      refine GG.mi C c9 hv10 dX6_listOf_54 ?_
      refine GG.iconst C dX6_listOf_55 ic_3 ?_
      obtain ⟨v11, hv11, hf⟩ := obd_some hf
      refine GG.c_X6_346 C rfl (gX6_toldBy hv11) ⟨Nat.le_of_ble_eq_true rfl, Nat.le_of_ble_eq_true rfl⟩ ⟨Nat.le_of_ble_eq_true rfl, Nat.le_of_ble_eq_true rfl⟩ (Nat.le_of_ble_eq_true rfl) dX6_listOf_56 ?_
      refine GG.iload C dX6_listOf_59 5 rfl ?_
      refine GG.icmp_le C (tgt := 80) dX6_listOf_61 (by decide) (fun c12 => ?_) (fun c12 => ?_)
      · have hf := if_t hf c12
        refine GG.aload_n C dX6_listOf_80 2 rfl ?_
        refine GG.iload C dX6_listOf_81 6 rfl ?_
        refine GG.iload C dX6_listOf_83 4 rfl ?_
        obtain ⟨c13, hf⟩ := gd_some hf
        obtain ⟨S14, hS14, hf⟩ := obd_some hf
        refine GG.mis C c13 hS14 dX6_listOf_85 ?_
        refine GG.iinc C (v := (a3 + (nI 1))) (lv' := [(3, .int (a3 + (nI 1))), (0, .ref (kh K)), (1, .int a1), (2, .ref (km K a2)), (4, .int a4), (5, .int a5), (6, .int a6)]) dX6_listOf_86 3 rfl (congrArg (a3 + ·) ic_1) (by decide) rfl ?_
        refine GG.iinc C (v := (a4 + (nI 1))) (lv' := [(4, .int (a4 + (nI 1))), (3, .int (a3 + (nI 1))), (0, .ref (kh K)), (1, .int a1), (2, .ref (km K a2)), (5, .int a5), (6, .int a6)]) dX6_listOf_89 4 rfl (congrArg (a4 + ·) ic_1) (by decide) rfl ?_
        refine GG.goto C (tgt := 5) dX6_listOf_92 (by decide) ?_
        refine GG.sub [2, 3, 4, 1, 0] rfl ?_
        exact hk5 _ _ _ _ _ hf
      · have hf := if_f hf c12
        refine GG.aload_n C dX6_listOf_64 2 rfl ?_
        refine GG.iload C dX6_listOf_65 6 rfl ?_
        refine GG.aload_n C dX6_listOf_67 2 rfl ?_
        refine GG.iload C dX6_listOf_68 6 rfl ?_
        refine GG.iconst C dX6_listOf_70 ic_1 ?_
        refine GG.isub C dX6_listOf_71 ?_
        obtain ⟨c15, hf⟩ := gd_some hf
        obtain ⟨v16, hv16, hf⟩ := obd_some hf
        refine GG.mi C c15 hv16 dX6_listOf_72 ?_
        obtain ⟨c17, hf⟩ := gd_some hf
        obtain ⟨S18, hS18, hf⟩ := obd_some hf
        refine GG.mis C c17 hS18 dX6_listOf_73 ?_
        refine GG.iinc C (v := (a6 + (-1 : Int32))) (lv' := [(6, .int (a6 + (-1 : Int32))), (0, .ref (kh K)), (1, .int a1), (2, .ref (km K a2)), (3, .int a3), (4, .int a4), (5, .int a5)]) dX6_listOf_74 6 rfl (congrArg (a6 + ·) ic_m1) (by decide) rfl ?_
        refine GG.goto C (tgt := 42) dX6_listOf_77 (by decide) ?_
        refine GG.sub [1, 2, 3, 4, 5, 6, 0] rfl ?_
        exact ih _ _ _ _ _ _ _ hf
theorem gX6_listOf_5 {K : gK} {X : gX} {M : XS} (C : gC K X cX6_listOf 7 yX6_listOf (some Jvm.ClassFile.FieldType.int) rX6_listOf)  {o : (Int32 × MS)} (E : gE K X (some (.int o.1)) M (some o.2) rX6_listOf.cells rX6_listOf.slots)   :
    ∀ (n : Nat) (S : MS) (a1 : Int32) (a2 : Nat) (a3 : Int32) (a4 : Int32), fX6_listOf_5  n S a1 a2 a3 a4 = some o → GG K X 7 0 0 M (some S) 5 [(0, .ref (kh K)), (1, .int a1), (2, .ref (km K a2)), (3, .int a3), (4, .int a4)] [] := by
  intro n
  induction n with
  | zero => intro S a1 a2 a3 a4 hf; cases hf
  | succ n ih =>
    intro S a1 a2 a3 a4 hf
    rw [fX6_listOf_5] at hf
    refine GG.iload C dX6_listOf_5 4 rfl ?_
    refine GG.aload_n C dX6_listOf_7 0 rfl ?_
    refine GG.gm20 C rfl dX6_listOf_8 ?_
    refine GG.iconst C dX6_listOf_11 ic_0 ?_
    obtain ⟨v1, hv1, hf⟩ := obd_some hf
    refine GG.mi C rfl hv1 dX6_listOf_12 ?_
    refine GG.icmp_ge C (tgt := 95) dX6_listOf_13 (by decide) (fun c2 => ?_) (fun c2 => ?_)
    · have hf := if_t hf c2
      refine GG.iload_n C dX6_listOf_95 3 rfl ?_
      have hf := Option.some.inj hf
      subst hf
      exact GG.iret C E dX6_listOf_96
    · have hf := if_f hf c2
      refine GG.aload_n C dX6_listOf_16 0 rfl ?_
      refine GG.iload_n C dX6_listOf_17 1 rfl ?_
      refine GG.iload C dX6_listOf_18 4 rfl ?_
      obtain ⟨v3, hv3, hf⟩ := obd_some hf
      refine GG.c_X6_343 C rfl (gX6_isThere hv3) ⟨Nat.le_of_ble_eq_true rfl, Nat.le_of_ble_eq_true rfl⟩ ⟨Nat.le_of_ble_eq_true rfl, Nat.le_of_ble_eq_true rfl⟩ (Nat.le_of_ble_eq_true rfl) dX6_listOf_20 ?_
      refine GG.if_ne C (tgt := 29) dX6_listOf_23 (by decide) (fun c4 => ?_) (fun c4 => ?_)
      · have hf := if_f hf c4
        refine GG.aload_n C dX6_listOf_29 0 rfl ?_
        refine GG.iload_n C dX6_listOf_30 1 rfl ?_
        refine GG.iload C dX6_listOf_31 4 rfl ?_
        refine GG.iconst C dX6_listOf_33 ic_3 ?_
        obtain ⟨v5, hv5, hf⟩ := obd_some hf
        refine GG.c_X6_346 C rfl (gX6_toldBy hv5) ⟨Nat.le_of_ble_eq_true rfl, Nat.le_of_ble_eq_true rfl⟩ ⟨Nat.le_of_ble_eq_true rfl, Nat.le_of_ble_eq_true rfl⟩ (Nat.le_of_ble_eq_true rfl) dX6_listOf_34 ?_
        refine GG.istore C (lv' := [(5, .int v5), (0, .ref (kh K)), (1, .int a1), (2, .ref (km K a2)), (3, .int a3), (4, .int a4)]) dX6_listOf_37 (by decide) rfl ?_
        refine GG.iload_n C dX6_listOf_39 4 rfl ?_
        refine GG.istore C (lv' := [(6, .int a3), (5, .int v5), (0, .ref (kh K)), (1, .int a1), (2, .ref (km K a2)), (3, .int a3), (4, .int a4)]) dX6_listOf_40 (by decide) rfl ?_
        refine GG.sub [2, 3, 4, 5, 6, 1, 0] rfl ?_
        exact gX6_listOf_42 C E (hk5 := ih) FU _ _ _ _ _ _ _ hf
      · have hf := if_t hf c4
        refine GG.goto C (tgt := 89) dX6_listOf_26 (by decide) ?_
        refine GG.iinc C (v := (a4 + (nI 1))) (lv' := [(4, .int (a4 + (nI 1))), (0, .ref (kh K)), (1, .int a1), (2, .ref (km K a2)), (3, .int a3)]) dX6_listOf_89 4 rfl (congrArg (a4 + ·) ic_1) (by decide) rfl ?_
        refine GG.goto C (tgt := 5) dX6_listOf_92 (by decide) ?_
        refine GG.sub [1, 2, 3, 4, 0] rfl ?_
        exact ih _ _ _ _ _ hf
theorem gX6_listOf {K : gK} {M : XS}  {S : MS} {a1 : Int32} {a2 : Nat} {o : (Int32 × MS)} (hf : fX6_listOf S a1 a2 = some o) : gMet K yX6_listOf cX6_listOf 7 (some Jvm.ClassFile.FieldType.int) rX6_listOf [(.ref (kh K)), (.int a1), (.ref (km K a2))] M (some S) (some (.int o.1)) M (some o.2) := by
  refine gMet.of pn_X6 (Nat.le_of_ble_eq_true rfl) fun X C E => ?_
  unfold fX6_listOf at hf
  show GG K X 7 0 0 M (some S) 0 [(0, .ref (kh K)), (1, .int a1), (2, .ref (km K a2))] []
  refine GG.iconst C dX6_listOf_0 ic_0 ?_
  refine GG.istore_n C (lv' := [(3, .int (nI 0)), (0, .ref (kh K)), (1, .int a1), (2, .ref (km K a2))]) dX6_listOf_1 (by decide) rfl ?_
  refine GG.iconst C dX6_listOf_2 ic_0 ?_
  refine GG.istore C (lv' := [(4, .int (nI 0)), (3, .int (nI 0)), (0, .ref (kh K)), (1, .int a1), (2, .ref (km K a2))]) dX6_listOf_3 (by decide) rfl ?_
  refine GG.sub [2, 3, 4, 1, 0] rfl ?_
  exact gX6_listOf_5 C E  FU _ _ _ _ _ hf
theorem gX6_size {K : gK} {M : XS}  {S : MS} {a1 : Int32} {o : (Int32 × MS)} (hf : fX6_size S a1 = some o) : gMet K yX6_size cX6_size 2 (some Jvm.ClassFile.FieldType.int) rX6_size [(.ref (kh K)), (.int a1)] M (some S) (some (.int o.1)) M (some o.2) := by
  refine gMet.of pn_X6 (Nat.le_of_ble_eq_true rfl) fun X C E => ?_
  unfold fX6_size at hf
  show GG K X 2 0 0 M (some S) 0 [(0, .ref (kh K)), (1, .int a1)] []
  refine GG.aload_n C dX6_size_0 0 rfl ?_
  refine GG.iconst C dX6_size_1 ic_0 ?_
  refine GG.pm1 C rfl dX6_size_2 ?_
  refine GG.topS fun S1 hS1 => ?_
  have hf := ltb_s hS1 hf
  refine GG.aload_n C dX6_size_5 0 rfl ?_
  refine GG.aload_n C dX6_size_6 0 rfl ?_
  refine GG.iload_n C dX6_size_7 1 rfl ?_
  obtain ⟨v2, hv2, hf⟩ := obd_some hf
  refine GG.c_X6_349 C rfl (gX6_whyNot hv2) ⟨Nat.le_of_ble_eq_true rfl, Nat.le_of_ble_eq_true rfl⟩ ⟨Nat.le_of_ble_eq_true rfl, Nat.le_of_ble_eq_true rfl⟩ (Nat.le_of_ble_eq_true rfl) dX6_size_8 ?_
  refine GG.pm0 C rfl dX6_size_11 ?_
  refine GG.topS fun S3 hS3 => ?_
  have hf := ltb_s hS3 hf
  refine GG.aload_n C dX6_size_14 0 rfl ?_
  refine GG.gm0 C rfl dX6_size_15 ?_
  refine GG.if_le C (tgt := 25) dX6_size_18 (by decide) (fun c4 => ?_) (fun c4 => ?_)
  · have hf := if_t hf c4
    refine GG.aload_n C dX6_size_25 0 rfl ?_
    refine GG.iload_n C dX6_size_26 1 rfl ?_
    refine GG.aload_n C dX6_size_27 0 rfl ?_
    refine GG.gm23 C rfl dX6_size_28 ?_
    obtain ⟨p5, hp5, hf⟩ := obd_some hf
    refine GG.c_X6_352 C rfl (gX6_listOf hp5) ⟨Nat.le_of_ble_eq_true rfl, Nat.le_of_ble_eq_true rfl⟩ ⟨Nat.le_of_ble_eq_true rfl, Nat.le_of_ble_eq_true rfl⟩ (Nat.le_of_ble_eq_true rfl) dX6_size_31 ?_
    have hf := Option.some.inj hf
    subst hf
    exact GG.iret C E dX6_size_34
  · have hf := if_f hf c4
    refine GG.iconst C dX6_size_21 ic_m1 ?_
    refine GG.goto C (tgt := 34) dX6_size_22 (by decide) ?_
    have hf := Option.some.inj hf
    subst hf
    exact GG.iret C E dX6_size_34
theorem gX6_thing {K : gK} {M : XS}  {S : MS} {a1 : Int32} {a2 : Int32} {o : (Int32 × MS)} (hf : fX6_thing S a1 a2 = some o) : gMet K yX6_thing cX6_thing 3 (some Jvm.ClassFile.FieldType.int) rX6_thing [(.ref (kh K)), (.int a1), (.int a2)] M (some S) (some (.int o.1)) M (some o.2) := by
  refine gMet.of pn_X6 (Nat.le_of_ble_eq_true rfl) fun X C E => ?_
  unfold fX6_thing at hf
  show GG K X 3 0 0 M (some S) 0 [(0, .ref (kh K)), (1, .int a1), (2, .int a2)] []
  refine GG.aload_n C dX6_thing_0 0 rfl ?_
  refine GG.iconst C dX6_thing_1 ic_0 ?_
  refine GG.pm1 C rfl dX6_thing_2 ?_
  refine GG.topS fun S1 hS1 => ?_
  have hf := ltb_s hS1 hf
  refine GG.aload_n C dX6_thing_5 0 rfl ?_
  refine GG.aload_n C dX6_thing_6 0 rfl ?_
  refine GG.iload_n C dX6_thing_7 1 rfl ?_
  obtain ⟨v2, hv2, hf⟩ := obd_some hf
  refine GG.c_X6_349 C rfl (gX6_whyNot hv2) ⟨Nat.le_of_ble_eq_true rfl, Nat.le_of_ble_eq_true rfl⟩ ⟨Nat.le_of_ble_eq_true rfl, Nat.le_of_ble_eq_true rfl⟩ (Nat.le_of_ble_eq_true rfl) dX6_thing_8 ?_
  refine GG.pm0 C rfl dX6_thing_11 ?_
  refine GG.topS fun S3 hS3 => ?_
  have hf := ltb_s hS3 hf
  refine GG.aload_n C dX6_thing_14 0 rfl ?_
  refine GG.gm0 C rfl dX6_thing_15 ?_
  refine GG.if_le C (tgt := 23) dX6_thing_18 (by decide) (fun c4 => ?_) (fun c4 => ?_)
  · have hf := if_t hf c4
    refine GG.aload_n C dX6_thing_23 0 rfl ?_
    refine GG.aload_n C dX6_thing_24 0 rfl ?_
    refine GG.iload_n C dX6_thing_25 1 rfl ?_
    refine GG.aload_n C dX6_thing_26 0 rfl ?_
    refine GG.gm23 C rfl dX6_thing_27 ?_
    obtain ⟨p5, hp5, hf⟩ := obd_some hf
    refine GG.c_X6_352 C rfl (gX6_listOf hp5) ⟨Nat.le_of_ble_eq_true rfl, Nat.le_of_ble_eq_true rfl⟩ ⟨Nat.le_of_ble_eq_true rfl, Nat.le_of_ble_eq_true rfl⟩ (Nat.le_of_ble_eq_true rfl) dX6_thing_30 ?_
    refine GG.pm25 C rfl dX6_thing_33 ?_
    refine GG.topS fun S6 hS6 => ?_
    have hf := ltb_s hS6 hf
    refine GG.iload_n C dX6_thing_36 2 rfl ?_
    refine GG.i2l C dX6_thing_37 ?_
    refine GG.lconst C dX6_thing_38 lc_0 ?_
    refine GG.aload_n C dX6_thing_39 0 rfl ?_
    refine GG.gm25 C rfl dX6_thing_40 ?_
    refine GG.iconst C dX6_thing_43 ic_1 ?_
    refine GG.isub C dX6_thing_44 ?_
    refine GG.i2l C dX6_thing_45 ?_
    obtain ⟨v7, hv7, hf⟩ := obd_some hf
    refine GG.c_X6_110 C rfl (gX6_isIn hv7) ⟨Nat.le_of_ble_eq_true rfl, Nat.le_of_ble_eq_true rfl⟩ ⟨Nat.le_of_ble_eq_true rfl, Nat.le_of_ble_eq_true rfl⟩ (Nat.le_of_ble_eq_true rfl) dX6_thing_46 ?_
    refine GG.if_eq C (tgt := 61) dX6_thing_49 (by decide) (fun c8 => ?_) (fun c8 => ?_)
    · have hf := if_t hf c8
      refine GG.aload_n C dX6_thing_61 0 rfl ?_
      refine GG.bipush C dX6_thing_62 bp_8 ?_
      obtain ⟨p9, hp9, hf⟩ := obd_some hf
      refine GG.c_X6_299 C rfl (gX6_refuse hp9) ⟨Nat.le_of_ble_eq_true rfl, Nat.le_of_ble_eq_true rfl⟩ ⟨Nat.le_of_ble_eq_true rfl, Nat.le_of_ble_eq_true rfl⟩ (Nat.le_of_ble_eq_true rfl) dX6_thing_64 ?_
      have hf := Option.some.inj hf
      subst hf
      exact GG.iret C E dX6_thing_67
    · have hf := if_f hf c8
      refine GG.aload_n C dX6_thing_52 0 rfl ?_
      refine GG.gm23 C rfl dX6_thing_53 ?_
      refine GG.iload_n C dX6_thing_56 2 rfl ?_
      obtain ⟨v10, hv10, hf⟩ := obd_some hf
      refine GG.mi C rfl hv10 dX6_thing_57 ?_
      refine GG.goto C (tgt := 67) dX6_thing_58 (by decide) ?_
      have hf := Option.some.inj hf
      subst hf
      exact GG.iret C E dX6_thing_67
  · have hf := if_f hf c4
    refine GG.iconst C dX6_thing_21 ic_m1 ?_
    have hf := Option.some.inj hf
    subst hf
    exact GG.iret C E dX6_thing_22
theorem gX6_whyNoThing {K : gK} {M : XS}  {S : MS} {a1 : Int32} {a2 : Int32} {o : Int32} (hf : fX6_whyNoThing S a1 a2 = some o) : gMet K yX6_whyNoThing cX6_whyNoThing 3 (some Jvm.ClassFile.FieldType.int) rX6_whyNoThing [(.ref (kh K)), (.int a1), (.int a2)] M (some S) (some (.int o)) M (some S) := by
  refine gMet.of pn_X6 (Nat.le_of_ble_eq_true rfl) fun X C E => ?_
  unfold fX6_whyNoThing at hf
  show GG K X 3 0 0 M (some S) 0 [(0, .ref (kh K)), (1, .int a1), (2, .int a2)] []
  refine GG.aload_n C dX6_whyNoThing_0 0 rfl ?_
  refine GG.iload_n C dX6_whyNoThing_1 1 rfl ?_
  obtain ⟨v1, hv1, hf⟩ := obd_some hf
  refine GG.c_X6_319 C rfl (gX6_isSet hv1) ⟨Nat.le_of_ble_eq_true rfl, Nat.le_of_ble_eq_true rfl⟩ ⟨Nat.le_of_ble_eq_true rfl, Nat.le_of_ble_eq_true rfl⟩ (Nat.le_of_ble_eq_true rfl) dX6_whyNoThing_2 ?_
  refine GG.if_eq C (tgt := 16) dX6_whyNoThing_5 (by decide) (fun c2 => ?_) (fun c2 => ?_)
  · have hf := if_t hf c2
    refine GG.iconst C dX6_whyNoThing_16 ic_2 ?_
    have hf := Option.some.inj hf
    subst hf
    exact GG.iret C E dX6_whyNoThing_17
  · have hf := if_f hf c2
    refine GG.aload_n C dX6_whyNoThing_8 0 rfl ?_
    refine GG.iload_n C dX6_whyNoThing_9 2 rfl ?_
    obtain ⟨v3, hv3, hf⟩ := obd_some hf
    refine GG.c_X6_311 C rfl (gX6_isChange hv3) ⟨Nat.le_of_ble_eq_true rfl, Nat.le_of_ble_eq_true rfl⟩ ⟨Nat.le_of_ble_eq_true rfl, Nat.le_of_ble_eq_true rfl⟩ (Nat.le_of_ble_eq_true rfl) dX6_whyNoThing_10 ?_
    refine GG.if_ne C (tgt := 18) dX6_whyNoThing_13 (by decide) (fun c4 => ?_) (fun c4 => ?_)
    · have hf := if_f hf c4
      refine GG.aload_n C dX6_whyNoThing_18 0 rfl ?_
      refine GG.iload_n C dX6_whyNoThing_19 1 rfl ?_
      obtain ⟨v5, hv5, hf⟩ := obd_some hf
      refine GG.c_X6_322 C rfl (gX6_lackOf hv5) ⟨Nat.le_of_ble_eq_true rfl, Nat.le_of_ble_eq_true rfl⟩ ⟨Nat.le_of_ble_eq_true rfl, Nat.le_of_ble_eq_true rfl⟩ (Nat.le_of_ble_eq_true rfl) dX6_whyNoThing_20 ?_
      refine GG.if_eq C (tgt := 31) dX6_whyNoThing_23 (by decide) (fun c6 => ?_) (fun c6 => ?_)
      · have hf := if_t hf c6
        refine GG.aload_n C dX6_whyNoThing_31 0 rfl ?_
        refine GG.iload_n C dX6_whyNoThing_32 1 rfl ?_
        refine GG.iload_n C dX6_whyNoThing_33 2 rfl ?_
        obtain ⟨v7, hv7, hf⟩ := obd_some hf
        refine GG.c_X6_343 C rfl (gX6_isThere hv7) ⟨Nat.le_of_ble_eq_true rfl, Nat.le_of_ble_eq_true rfl⟩ ⟨Nat.le_of_ble_eq_true rfl, Nat.le_of_ble_eq_true rfl⟩ (Nat.le_of_ble_eq_true rfl) dX6_whyNoThing_34 ?_
        refine GG.if_eq C (tgt := 44) dX6_whyNoThing_37 (by decide) (fun c8 => ?_) (fun c8 => ?_)
        · have hf := if_t hf c8
          refine GG.bipush C dX6_whyNoThing_44 bp_8 ?_
          have hf := Option.some.inj hf
          subst hf
          exact GG.iret C E dX6_whyNoThing_46
        · have hf := if_f hf c8
          refine GG.iconst C dX6_whyNoThing_40 ic_0 ?_
          refine GG.goto C (tgt := 46) dX6_whyNoThing_41 (by decide) ?_
          have hf := Option.some.inj hf
          subst hf
          exact GG.iret C E dX6_whyNoThing_46
      · have hf := if_f hf c6
        refine GG.bipush C dX6_whyNoThing_26 bp_9 ?_
        refine GG.goto C (tgt := 46) dX6_whyNoThing_28 (by decide) ?_
        have hf := Option.some.inj hf
        subst hf
        exact GG.iret C E dX6_whyNoThing_46
    · have hf := if_t hf c4
      refine GG.iconst C dX6_whyNoThing_16 ic_2 ?_
      have hf := Option.some.inj hf
      subst hf
      exact GG.iret C E dX6_whyNoThing_17
theorem gX6_says {K : gK} {M : XS}  {S : MS} {a1 : Int32} {a2 : Int32} {o : (Int32 × MS)} (hf : fX6_says S a1 a2 = some o) : gMet K yX6_says cX6_says 3 (some Jvm.ClassFile.FieldType.int) rX6_says [(.ref (kh K)), (.int a1), (.int a2)] M (some S) (some (.int o.1)) M (some o.2) := by
  refine gMet.of pn_X6 (Nat.le_of_ble_eq_true rfl) fun X C E => ?_
  unfold fX6_says at hf
  show GG K X 3 0 0 M (some S) 0 [(0, .ref (kh K)), (1, .int a1), (2, .int a2)] []
  refine GG.aload_n C dX6_says_0 0 rfl ?_
  refine GG.iconst C dX6_says_1 ic_0 ?_
  refine GG.pm1 C rfl dX6_says_2 ?_
  refine GG.topS fun S1 hS1 => ?_
  have hf := ltb_s hS1 hf
  refine GG.aload_n C dX6_says_5 0 rfl ?_
  refine GG.aload_n C dX6_says_6 0 rfl ?_
  refine GG.iload_n C dX6_says_7 1 rfl ?_
  refine GG.iload_n C dX6_says_8 2 rfl ?_
  obtain ⟨v2, hv2, hf⟩ := obd_some hf
  refine GG.c_X6_359 C rfl (gX6_whyNoThing hv2) ⟨Nat.le_of_ble_eq_true rfl, Nat.le_of_ble_eq_true rfl⟩ ⟨Nat.le_of_ble_eq_true rfl, Nat.le_of_ble_eq_true rfl⟩ (Nat.le_of_ble_eq_true rfl) dX6_says_9 ?_
  refine GG.pm0 C rfl dX6_says_12 ?_
  refine GG.topS fun S3 hS3 => ?_
  have hf := ltb_s hS3 hf
  refine GG.aload_n C dX6_says_15 0 rfl ?_
  refine GG.gm0 C rfl dX6_says_16 ?_
  refine GG.if_le C (tgt := 26) dX6_says_19 (by decide) (fun c4 => ?_) (fun c4 => ?_)
  · have hf := if_t hf c4
    refine GG.aload_n C dX6_says_26 0 rfl ?_
    refine GG.iload_n C dX6_says_27 1 rfl ?_
    refine GG.iload_n C dX6_says_28 2 rfl ?_
    refine GG.iconst C dX6_says_29 ic_2 ?_
    obtain ⟨v5, hv5, hf⟩ := obd_some hf
    refine GG.c_X6_346 C rfl (gX6_toldBy hv5) ⟨Nat.le_of_ble_eq_true rfl, Nat.le_of_ble_eq_true rfl⟩ ⟨Nat.le_of_ble_eq_true rfl, Nat.le_of_ble_eq_true rfl⟩ (Nat.le_of_ble_eq_true rfl) dX6_says_30 ?_
    have hf := Option.some.inj hf
    subst hf
    exact GG.iret C E dX6_says_33
  · have hf := if_f hf c4
    refine GG.iconst C dX6_says_22 ic_m1 ?_
    refine GG.goto C (tgt := 33) dX6_says_23 (by decide) ?_
    have hf := Option.some.inj hf
    subst hf
    exact GG.iret C E dX6_says_33
theorem gX6_key {K : gK} {M : XS}  {S : MS} {a1 : Int32} {a2 : Int32} {o : (Int32 × MS)} (hf : fX6_key S a1 a2 = some o) : gMet K yX6_key cX6_key 3 (some Jvm.ClassFile.FieldType.int) rX6_key [(.ref (kh K)), (.int a1), (.int a2)] M (some S) (some (.int o.1)) M (some o.2) := by
  refine gMet.of pn_X6 (Nat.le_of_ble_eq_true rfl) fun X C E => ?_
  unfold fX6_key at hf
  show GG K X 3 0 0 M (some S) 0 [(0, .ref (kh K)), (1, .int a1), (2, .int a2)] []
  refine GG.aload_n C dX6_key_0 0 rfl ?_
  refine GG.iconst C dX6_key_1 ic_0 ?_
  refine GG.pm1 C rfl dX6_key_2 ?_
  refine GG.topS fun S1 hS1 => ?_
  have hf := ltb_s hS1 hf
  refine GG.aload_n C dX6_key_5 0 rfl ?_
  refine GG.aload_n C dX6_key_6 0 rfl ?_
  refine GG.iload_n C dX6_key_7 1 rfl ?_
  refine GG.iload_n C dX6_key_8 2 rfl ?_
  obtain ⟨v2, hv2, hf⟩ := obd_some hf
  refine GG.c_X6_359 C rfl (gX6_whyNoThing hv2) ⟨Nat.le_of_ble_eq_true rfl, Nat.le_of_ble_eq_true rfl⟩ ⟨Nat.le_of_ble_eq_true rfl, Nat.le_of_ble_eq_true rfl⟩ (Nat.le_of_ble_eq_true rfl) dX6_key_9 ?_
  refine GG.pm0 C rfl dX6_key_12 ?_
  refine GG.topS fun S3 hS3 => ?_
  have hf := ltb_s hS3 hf
  refine GG.aload_n C dX6_key_15 0 rfl ?_
  refine GG.gm0 C rfl dX6_key_16 ?_
  refine GG.if_le C (tgt := 26) dX6_key_19 (by decide) (fun c4 => ?_) (fun c4 => ?_)
  · have hf := if_t hf c4
    refine GG.aload_n C dX6_key_26 0 rfl ?_
    refine GG.iload_n C dX6_key_27 1 rfl ?_
    refine GG.iload_n C dX6_key_28 2 rfl ?_
    refine GG.iconst C dX6_key_29 ic_3 ?_
    obtain ⟨v5, hv5, hf⟩ := obd_some hf
    refine GG.c_X6_346 C rfl (gX6_toldBy hv5) ⟨Nat.le_of_ble_eq_true rfl, Nat.le_of_ble_eq_true rfl⟩ ⟨Nat.le_of_ble_eq_true rfl, Nat.le_of_ble_eq_true rfl⟩ (Nat.le_of_ble_eq_true rfl) dX6_key_30 ?_
    have hf := Option.some.inj hf
    subst hf
    exact GG.iret C E dX6_key_33
  · have hf := if_f hf c4
    refine GG.iconst C dX6_key_22 ic_m1 ?_
    refine GG.goto C (tgt := 33) dX6_key_23 (by decide) ?_
    have hf := Option.some.inj hf
    subst hf
    exact GG.iret C E dX6_key_33
theorem gX6_placeIn_15 {K : gK} {X : gX} {M : XS} (C : gC K X cX6_placeIn 4 yX6_placeIn (some Jvm.ClassFile.FieldType.int) rX6_placeIn)  {o : (Int32 × MS)} (E : gE K X (some (.int o.1)) M (some o.2) rX6_placeIn.cells rX6_placeIn.slots)   :
    ∀ (n : Nat) (S : MS) (a2 : Int32) (a3 : Int32), fX6_placeIn_15  n S a2 a3 = some o → GG K X 4 0 0 M (some S) 15 [(0, .ref (kh K)), (2, .int a2), (3, .int a3)] [] := by
  intro n
  induction n with
  | zero => intro S a2 a3 hf; cases hf
  | succ n ih =>
    intro S a2 a3 hf
    rw [fX6_placeIn_15] at hf
    refine GG.iload_n C dX6_placeIn_15 2 rfl ?_
    refine GG.aload_n C dX6_placeIn_16 0 rfl ?_
    refine GG.gm25 C rfl dX6_placeIn_17 ?_
    refine GG.icmp_ge C (tgt := 41) dX6_placeIn_20 (by decide) (fun c3 => ?_) (fun c3 => ?_)
    · have hf := if_t hf c3
      refine GG.iconst C dX6_placeIn_41 ic_m1 ?_
      have hf := Option.some.inj hf
      subst hf
      exact GG.iret C E dX6_placeIn_42
    · have hf := if_f hf c3
      refine GG.aload_n C dX6_placeIn_23 0 rfl ?_
      refine GG.gm23 C rfl dX6_placeIn_24 ?_
      refine GG.iload_n C dX6_placeIn_27 2 rfl ?_
      obtain ⟨v4, hv4, hf⟩ := obd_some hf
      refine GG.mi C rfl hv4 dX6_placeIn_28 ?_
      refine GG.iload_n C dX6_placeIn_29 1 rfl ?_
      refine GG.icmp_ne C (tgt := 35) dX6_placeIn_30 (by decide) (fun c5 => ?_) (fun c5 => ?_)
      · have hf := if_f hf c5
        refine GG.iinc C (v := (a3 + (nI 1))) (lv' := [(3, .int (a3 + (nI 1))), (0, .ref (kh K)), (2, .int a2)]) dX6_placeIn_35 2 rfl (congrArg (a3 + ·) ic_1) (by decide) rfl ?_
        refine GG.goto C (tgt := 15) dX6_placeIn_38 (by decide) ?_
        refine GG.sub [1, 2, 0] rfl ?_
        exact ih _ _ _ hf
      · have hf := if_t hf c5
        refine GG.iload_n C dX6_placeIn_33 2 rfl ?_
        have hf := Option.some.inj hf
        subst hf
        exact GG.iret C E dX6_placeIn_34
theorem gX6_placeIn {K : gK} {M : XS}  {S : MS} {a1 : Int32} {a2 : Int32} {o : (Int32 × MS)} (hf : fX6_placeIn S a1 a2 = some o) : gMet K yX6_placeIn cX6_placeIn 4 (some Jvm.ClassFile.FieldType.int) rX6_placeIn [(.ref (kh K)), (.int a1), (.int a2)] M (some S) (some (.int o.1)) M (some o.2) := by
  refine gMet.of pn_X6 (Nat.le_of_ble_eq_true rfl) fun X C E => ?_
  unfold fX6_placeIn at hf
  show GG K X 4 0 0 M (some S) 0 [(0, .ref (kh K)), (1, .int a1), (2, .int a2)] []
  refine GG.aload_n C dX6_placeIn_0 0 rfl ?_
  refine GG.aload_n C dX6_placeIn_1 0 rfl ?_
  refine GG.iload_n C dX6_placeIn_2 1 rfl ?_
  refine GG.aload_n C dX6_placeIn_3 0 rfl ?_
  refine GG.gm23 C rfl dX6_placeIn_4 ?_
  obtain ⟨p1, hp1, hf⟩ := obd_some hf
  refine GG.c_X6_352 C rfl (gX6_listOf hp1) ⟨Nat.le_of_ble_eq_true rfl, Nat.le_of_ble_eq_true rfl⟩ ⟨Nat.le_of_ble_eq_true rfl, Nat.le_of_ble_eq_true rfl⟩ (Nat.le_of_ble_eq_true rfl) dX6_placeIn_7 ?_
  refine GG.pm25 C rfl dX6_placeIn_10 ?_
  refine GG.topS fun S2 hS2 => ?_
  have hf := ltb_s hS2 hf
  refine GG.iconst C dX6_placeIn_13 ic_0 ?_
  refine GG.istore_n C (lv' := [(3, .int (nI 0)), (0, .ref (kh K)), (1, .int a1), (2, .int a2)]) dX6_placeIn_14 (by decide) rfl ?_
  refine GG.sub [1, 3, 0] rfl ?_
  exact gX6_placeIn_15 C E  FU _ _ _ hf
theorem gX6_place {K : gK} {M : XS}  {S : MS} {a1 : Int32} {a2 : Int32} {o : (Int32 × MS)} (hf : fX6_place S a1 a2 = some o) : gMet K yX6_place cX6_place 3 (some Jvm.ClassFile.FieldType.int) rX6_place [(.ref (kh K)), (.int a1), (.int a2)] M (some S) (some (.int o.1)) M (some o.2) := by
  refine gMet.of pn_X6 (Nat.le_of_ble_eq_true rfl) fun X C E => ?_
  unfold fX6_place at hf
  show GG K X 3 0 0 M (some S) 0 [(0, .ref (kh K)), (1, .int a1), (2, .int a2)] []
  refine GG.aload_n C dX6_place_0 0 rfl ?_
  refine GG.iconst C dX6_place_1 ic_0 ?_
  refine GG.pm1 C rfl dX6_place_2 ?_
  refine GG.topS fun S1 hS1 => ?_
  have hf := ltb_s hS1 hf
  refine GG.aload_n C dX6_place_5 0 rfl ?_
  refine GG.aload_n C dX6_place_6 0 rfl ?_
  refine GG.iload_n C dX6_place_7 1 rfl ?_
  refine GG.iload_n C dX6_place_8 2 rfl ?_
  obtain ⟨v2, hv2, hf⟩ := obd_some hf
  refine GG.c_X6_359 C rfl (gX6_whyNoThing hv2) ⟨Nat.le_of_ble_eq_true rfl, Nat.le_of_ble_eq_true rfl⟩ ⟨Nat.le_of_ble_eq_true rfl, Nat.le_of_ble_eq_true rfl⟩ (Nat.le_of_ble_eq_true rfl) dX6_place_9 ?_
  refine GG.pm0 C rfl dX6_place_12 ?_
  refine GG.topS fun S3 hS3 => ?_
  have hf := ltb_s hS3 hf
  refine GG.aload_n C dX6_place_15 0 rfl ?_
  refine GG.gm0 C rfl dX6_place_16 ?_
  refine GG.if_le C (tgt := 26) dX6_place_19 (by decide) (fun c4 => ?_) (fun c4 => ?_)
  · have hf := if_t hf c4
    refine GG.aload_n C dX6_place_26 0 rfl ?_
    refine GG.iload_n C dX6_place_27 1 rfl ?_
    refine GG.iload_n C dX6_place_28 2 rfl ?_
    obtain ⟨p5, hp5, hf⟩ := obd_some hf
    refine GG.c_X6_362 C rfl (gX6_placeIn hp5) ⟨Nat.le_of_ble_eq_true rfl, Nat.le_of_ble_eq_true rfl⟩ ⟨Nat.le_of_ble_eq_true rfl, Nat.le_of_ble_eq_true rfl⟩ (Nat.le_of_ble_eq_true rfl) dX6_place_29 ?_
    have hf := Option.some.inj hf
    subst hf
    exact GG.iret C E dX6_place_32
  · have hf := if_f hf c4
    refine GG.iconst C dX6_place_22 ic_m1 ?_
    refine GG.goto C (tgt := 32) dX6_place_23 (by decide) ?_
    have hf := Option.some.inj hf
    subst hf
    exact GG.iret C E dX6_place_32
theorem gX6_whyNotTwo {K : gK} {M : XS}  {S : MS} {a1 : Int32} {a2 : Int32} {o : Int32} (hf : fX6_whyNotTwo S a1 a2 = some o) : gMet K yX6_whyNotTwo cX6_whyNotTwo 3 (some Jvm.ClassFile.FieldType.int) rX6_whyNotTwo [(.ref (kh K)), (.int a1), (.int a2)] M (some S) (some (.int o)) M (some S) := by
  refine gMet.of pn_X6 (Nat.le_of_ble_eq_true rfl) fun X C E => ?_
  unfold fX6_whyNotTwo at hf
  show GG K X 3 0 0 M (some S) 0 [(0, .ref (kh K)), (1, .int a1), (2, .int a2)] []
  refine GG.aload_n C dX6_whyNotTwo_0 0 rfl ?_
  refine GG.iload_n C dX6_whyNotTwo_1 1 rfl ?_
  obtain ⟨v1, hv1, hf⟩ := obd_some hf
  refine GG.c_X6_319 C rfl (gX6_isSet hv1) ⟨Nat.le_of_ble_eq_true rfl, Nat.le_of_ble_eq_true rfl⟩ ⟨Nat.le_of_ble_eq_true rfl, Nat.le_of_ble_eq_true rfl⟩ (Nat.le_of_ble_eq_true rfl) dX6_whyNotTwo_2 ?_
  refine GG.if_eq C (tgt := 16) dX6_whyNotTwo_5 (by decide) (fun c2 => ?_) (fun c2 => ?_)
  · have hf := if_t hf c2
    refine GG.iconst C dX6_whyNotTwo_16 ic_2 ?_
    refine GG.goto C (tgt := 42) dX6_whyNotTwo_17 (by decide) ?_
    have hf := Option.some.inj hf
    subst hf
    exact GG.iret C E dX6_whyNotTwo_42
  · have hf := if_f hf c2
    refine GG.aload_n C dX6_whyNotTwo_8 0 rfl ?_
    refine GG.iload_n C dX6_whyNotTwo_9 2 rfl ?_
    obtain ⟨v3, hv3, hf⟩ := obd_some hf
    refine GG.c_X6_319 C rfl (gX6_isSet hv3) ⟨Nat.le_of_ble_eq_true rfl, Nat.le_of_ble_eq_true rfl⟩ ⟨Nat.le_of_ble_eq_true rfl, Nat.le_of_ble_eq_true rfl⟩ (Nat.le_of_ble_eq_true rfl) dX6_whyNotTwo_10 ?_
    refine GG.if_ne C (tgt := 20) dX6_whyNotTwo_13 (by decide) (fun c4 => ?_) (fun c4 => ?_)
    · have hf := if_f hf c4
      refine GG.aload_n C dX6_whyNotTwo_20 0 rfl ?_
      refine GG.iload_n C dX6_whyNotTwo_21 1 rfl ?_
      obtain ⟨v5, hv5, hf⟩ := obd_some hf
      refine GG.c_X6_322 C rfl (gX6_lackOf hv5) ⟨Nat.le_of_ble_eq_true rfl, Nat.le_of_ble_eq_true rfl⟩ ⟨Nat.le_of_ble_eq_true rfl, Nat.le_of_ble_eq_true rfl⟩ (Nat.le_of_ble_eq_true rfl) dX6_whyNotTwo_22 ?_
      refine GG.if_ne C (tgt := 36) dX6_whyNotTwo_25 (by decide) (fun c6 => ?_) (fun c6 => ?_)
      · have hf := if_f hf c6
        refine GG.bipush C dX6_whyNotTwo_36 bp_9 ?_
        refine GG.goto C (tgt := 42) dX6_whyNotTwo_38 (by decide) ?_
        have hf := Option.some.inj hf
        subst hf
        exact GG.iret C E dX6_whyNotTwo_42
      · have hf := if_t hf c6
        refine GG.aload_n C dX6_whyNotTwo_28 0 rfl ?_
        refine GG.iload_n C dX6_whyNotTwo_29 2 rfl ?_
        obtain ⟨v7, hv7, hf⟩ := obd_some hf
        refine GG.c_X6_322 C rfl (gX6_lackOf hv7) ⟨Nat.le_of_ble_eq_true rfl, Nat.le_of_ble_eq_true rfl⟩ ⟨Nat.le_of_ble_eq_true rfl, Nat.le_of_ble_eq_true rfl⟩ (Nat.le_of_ble_eq_true rfl) dX6_whyNotTwo_30 ?_
        refine GG.if_eq C (tgt := 41) dX6_whyNotTwo_33 (by decide) (fun c8 => ?_) (fun c8 => ?_)
        · have hf := if_t hf c8
          refine GG.iconst C dX6_whyNotTwo_41 ic_0 ?_
          have hf := Option.some.inj hf
          subst hf
          exact GG.iret C E dX6_whyNotTwo_42
        · have hf := if_f hf c8
          refine GG.bipush C dX6_whyNotTwo_36 bp_9 ?_
          refine GG.goto C (tgt := 42) dX6_whyNotTwo_38 (by decide) ?_
          have hf := Option.some.inj hf
          subst hf
          exact GG.iret C E dX6_whyNotTwo_42
    · have hf := if_t hf c4
      refine GG.iconst C dX6_whyNotTwo_16 ic_2 ?_
      refine GG.goto C (tgt := 42) dX6_whyNotTwo_17 (by decide) ?_
      have hf := Option.some.inj hf
      subst hf
      exact GG.iret C E dX6_whyNotTwo_42
theorem gX6_like_152 {K : gK} {X : gX} {M : XS} (C : gC K X cX6_like 4 yX6_like (some Jvm.ClassFile.FieldType.int) rX6_like)  {o : (Int32 × MS)} (E : gE K X (some (.int o.1)) M (some o.2) rX6_like.cells rX6_like.slots)   :
    ∀ (n : Nat) (S : MS) (a1 : Int32) (a2 : Int32) (a3 : Int32), fX6_like_152  n S a1 a2 a3 = some o → GG K X 4 0 0 M (some S) 152 [(0, .ref (kh K)), (1, .int a1), (2, .int a2), (3, .int a3)] [] := by
  intro n
  induction n with
  | zero => intro S a1 a2 a3 hf; cases hf
  | succ n ih =>
    intro S a1 a2 a3 hf
    rw [fX6_like_152] at hf
    refine GG.iload_n C dX6_like_152 3 rfl ?_
    refine GG.aload_n C dX6_like_153 0 rfl ?_
    refine GG.gm20 C rfl dX6_like_154 ?_
    refine GG.iconst C dX6_like_157 ic_0 ?_
    obtain ⟨v24, hv24, hf⟩ := obd_some hf
    refine GG.mi C rfl hv24 dX6_like_158 ?_
    refine GG.icmp_ge C (tgt := 185) dX6_like_159 (by decide) (fun c25 => ?_) (fun c25 => ?_)
    · have hf := if_t hf c25
      refine GG.iconst C dX6_like_185 ic_1 ?_
      have hf := Option.some.inj hf
      subst hf
      exact GG.iret C E dX6_like_186
    · have hf := if_f hf c25
      refine GG.aload_n C dX6_like_162 0 rfl ?_
      refine GG.iload_n C dX6_like_163 1 rfl ?_
      refine GG.iload_n C dX6_like_164 3 rfl ?_
      obtain ⟨v26, hv26, hf⟩ := obd_some hf
      refine GG.c_X6_334 C rfl (gX6_quarrelers hv26) ⟨Nat.le_of_ble_eq_true rfl, Nat.le_of_ble_eq_true rfl⟩ ⟨Nat.le_of_ble_eq_true rfl, Nat.le_of_ble_eq_true rfl⟩ (Nat.le_of_ble_eq_true rfl) dX6_like_165 ?_
      refine GG.aload_n C dX6_like_168 0 rfl ?_
      refine GG.iload_n C dX6_like_169 2 rfl ?_
      refine GG.iload_n C dX6_like_170 3 rfl ?_
      obtain ⟨v27, hv27, hf⟩ := obd_some hf
      refine GG.c_X6_334 C rfl (gX6_quarrelers hv27) ⟨Nat.le_of_ble_eq_true rfl, Nat.le_of_ble_eq_true rfl⟩ ⟨Nat.le_of_ble_eq_true rfl, Nat.le_of_ble_eq_true rfl⟩ (Nat.le_of_ble_eq_true rfl) dX6_like_171 ?_
      refine GG.icmp_eq C (tgt := 179) dX6_like_174 (by decide) (fun c28 => ?_) (fun c28 => ?_)
      · have hf := if_t hf c28
        refine GG.iinc C (v := (a3 + (nI 1))) (lv' := [(3, .int (a3 + (nI 1))), (0, .ref (kh K)), (1, .int a1), (2, .int a2)]) dX6_like_179 3 rfl (congrArg (a3 + ·) ic_1) (by decide) rfl ?_
        refine GG.goto C (tgt := 152) dX6_like_182 (by decide) ?_
        refine GG.sub [1, 2, 3, 0] rfl ?_
        exact ih _ _ _ _ hf
      · have hf := if_f hf c28
        refine GG.iconst C dX6_like_177 ic_0 ?_
        have hf := Option.some.inj hf
        subst hf
        exact GG.iret C E dX6_like_178
theorem gX6_like_65 {K : gK} {X : gX} {M : XS} (C : gC K X cX6_like 4 yX6_like (some Jvm.ClassFile.FieldType.int) rX6_like)  {o : (Int32 × MS)} (E : gE K X (some (.int o.1)) M (some o.2) rX6_like.cells rX6_like.slots)   :
    ∀ (n : Nat) (S : MS) (a1 : Int32) (a2 : Int32) (a3 : Int32), fX6_like_65  n S a1 a2 a3 = some o → GG K X 4 0 0 M (some S) 65 [(0, .ref (kh K)), (1, .int a1), (2, .int a2), (3, .int a3)] [] := by
  intro n
  induction n with
  | zero => intro S a1 a2 a3 hf; cases hf
  | succ n ih =>
    intro S a1 a2 a3 hf
    rw [fX6_like_65] at hf
    refine GG.iload_n C dX6_like_65 3 rfl ?_
    refine GG.aload_n C dX6_like_66 0 rfl ?_
    refine GG.gm25 C rfl dX6_like_67 ?_
    refine GG.icmp_ge C (tgt := 150) dX6_like_70 (by decide) (fun c10 => ?_) (fun c10 => ?_)
    · have hf := if_t hf c10
      refine GG.iconst C dX6_like_150 ic_0 ?_
      refine GG.istore_n C (lv' := [(3, .int (nI 0)), (0, .ref (kh K)), (1, .int a1), (2, .int a2)]) dX6_like_151 (by decide) rfl ?_
      refine GG.sub [1, 2, 3, 0] rfl ?_
      exact gX6_like_152 C E  FU _ _ _ _ hf
    · have hf := if_f hf c10
      refine GG.aload_n C dX6_like_73 0 rfl ?_
      refine GG.gm23 C rfl dX6_like_74 ?_
      refine GG.iload_n C dX6_like_77 3 rfl ?_
      obtain ⟨v11, hv11, hf⟩ := obd_some hf
      refine GG.mi C rfl hv11 dX6_like_78 ?_
      refine GG.aload_n C dX6_like_79 0 rfl ?_
      refine GG.gm24 C rfl dX6_like_80 ?_
      refine GG.iload_n C dX6_like_83 3 rfl ?_
      obtain ⟨v12, hv12, hf⟩ := obd_some hf
      refine GG.mi C rfl hv12 dX6_like_84 ?_
      refine GG.icmp_ne C (tgt := 142) dX6_like_85 (by decide) (fun c13 => ?_) (fun c13 => ?_)
      · have hf := if_f hf c13
        refine GG.iconst C dX6_like_142 ic_0 ?_
        have hf := Option.some.inj hf
        subst hf
        exact GG.iret C E dX6_like_143
      · have hf := if_t hf c13
        refine GG.aload_n C dX6_like_88 0 rfl ?_
        refine GG.iload_n C dX6_like_89 1 rfl ?_
        refine GG.aload_n C dX6_like_90 0 rfl ?_
        refine GG.gm23 C rfl dX6_like_91 ?_
        refine GG.iload_n C dX6_like_94 3 rfl ?_
        obtain ⟨v14, hv14, hf⟩ := obd_some hf
        refine GG.mi C rfl hv14 dX6_like_95 ?_
        refine GG.iconst C dX6_like_96 ic_2 ?_
        obtain ⟨v15, hv15, hf⟩ := obd_some hf
        refine GG.c_X6_346 C rfl (gX6_toldBy hv15) ⟨Nat.le_of_ble_eq_true rfl, Nat.le_of_ble_eq_true rfl⟩ ⟨Nat.le_of_ble_eq_true rfl, Nat.le_of_ble_eq_true rfl⟩ (Nat.le_of_ble_eq_true rfl) dX6_like_97 ?_
        refine GG.aload_n C dX6_like_100 0 rfl ?_
        refine GG.iload_n C dX6_like_101 2 rfl ?_
        refine GG.aload_n C dX6_like_102 0 rfl ?_
        refine GG.gm23 C rfl dX6_like_103 ?_
        refine GG.iload_n C dX6_like_106 3 rfl ?_
        obtain ⟨v16, hv16, hf⟩ := obd_some hf
        refine GG.mi C rfl hv16 dX6_like_107 ?_
        refine GG.iconst C dX6_like_108 ic_2 ?_
        obtain ⟨v17, hv17, hf⟩ := obd_some hf
        refine GG.c_X6_346 C rfl (gX6_toldBy hv17) ⟨Nat.le_of_ble_eq_true rfl, Nat.le_of_ble_eq_true rfl⟩ ⟨Nat.le_of_ble_eq_true rfl, Nat.le_of_ble_eq_true rfl⟩ (Nat.le_of_ble_eq_true rfl) dX6_like_109 ?_
        refine GG.icmp_ne C (tgt := 142) dX6_like_112 (by decide) (fun c18 => ?_) (fun c18 => ?_)
        · have hf := if_f hf c18
          refine GG.iconst C dX6_like_142 ic_0 ?_
          have hf := Option.some.inj hf
          subst hf
          exact GG.iret C E dX6_like_143
        · have hf := if_t hf c18
          refine GG.aload_n C dX6_like_115 0 rfl ?_
          refine GG.iload_n C dX6_like_116 1 rfl ?_
          refine GG.aload_n C dX6_like_117 0 rfl ?_
          refine GG.gm23 C rfl dX6_like_118 ?_
          refine GG.iload_n C dX6_like_121 3 rfl ?_
          obtain ⟨v19, hv19, hf⟩ := obd_some hf
          refine GG.mi C rfl hv19 dX6_like_122 ?_
          refine GG.iconst C dX6_like_123 ic_3 ?_
          obtain ⟨v20, hv20, hf⟩ := obd_some hf
          refine GG.c_X6_346 C rfl (gX6_toldBy hv20) ⟨Nat.le_of_ble_eq_true rfl, Nat.le_of_ble_eq_true rfl⟩ ⟨Nat.le_of_ble_eq_true rfl, Nat.le_of_ble_eq_true rfl⟩ (Nat.le_of_ble_eq_true rfl) dX6_like_124 ?_
          refine GG.aload_n C dX6_like_127 0 rfl ?_
          refine GG.iload_n C dX6_like_128 2 rfl ?_
          refine GG.aload_n C dX6_like_129 0 rfl ?_
          refine GG.gm23 C rfl dX6_like_130 ?_
          refine GG.iload_n C dX6_like_133 3 rfl ?_
          obtain ⟨v21, hv21, hf⟩ := obd_some hf
          refine GG.mi C rfl hv21 dX6_like_134 ?_
          refine GG.iconst C dX6_like_135 ic_3 ?_
          obtain ⟨v22, hv22, hf⟩ := obd_some hf
          refine GG.c_X6_346 C rfl (gX6_toldBy hv22) ⟨Nat.le_of_ble_eq_true rfl, Nat.le_of_ble_eq_true rfl⟩ ⟨Nat.le_of_ble_eq_true rfl, Nat.le_of_ble_eq_true rfl⟩ (Nat.le_of_ble_eq_true rfl) dX6_like_136 ?_
          refine GG.icmp_eq C (tgt := 144) dX6_like_139 (by decide) (fun c23 => ?_) (fun c23 => ?_)
          · have hf := if_t hf c23
            refine GG.iinc C (v := (a3 + (nI 1))) (lv' := [(3, .int (a3 + (nI 1))), (0, .ref (kh K)), (1, .int a1), (2, .int a2)]) dX6_like_144 3 rfl (congrArg (a3 + ·) ic_1) (by decide) rfl ?_
            refine GG.goto C (tgt := 65) dX6_like_147 (by decide) ?_
            refine GG.sub [1, 2, 3, 0] rfl ?_
            exact ih _ _ _ _ hf
          · have hf := if_f hf c23
            refine GG.iconst C dX6_like_142 ic_0 ?_
            have hf := Option.some.inj hf
            subst hf
            exact GG.iret C E dX6_like_143
theorem gX6_like {K : gK} {M : XS}  {S : MS} {a1 : Int32} {a2 : Int32} {o : (Int32 × MS)} (hf : fX6_like S a1 a2 = some o) : gMet K yX6_like cX6_like 4 (some Jvm.ClassFile.FieldType.int) rX6_like [(.ref (kh K)), (.int a1), (.int a2)] M (some S) (some (.int o.1)) M (some o.2) := by
  refine gMet.of pn_X6 (Nat.le_of_ble_eq_true rfl) fun X C E => ?_
  unfold fX6_like at hf
  show GG K X 4 0 0 M (some S) 0 [(0, .ref (kh K)), (1, .int a1), (2, .int a2)] []
  refine GG.aload_n C dX6_like_0 0 rfl ?_
  refine GG.iconst C dX6_like_1 ic_0 ?_
  refine GG.pm1 C rfl dX6_like_2 ?_
  refine GG.topS fun S1 hS1 => ?_
  have hf := ltb_s hS1 hf
  refine GG.aload_n C dX6_like_5 0 rfl ?_
  refine GG.aload_n C dX6_like_6 0 rfl ?_
  refine GG.iload_n C dX6_like_7 1 rfl ?_
  refine GG.iload_n C dX6_like_8 2 rfl ?_
  obtain ⟨v2, hv2, hf⟩ := obd_some hf
  refine GG.c_X6_365 C rfl (gX6_whyNotTwo hv2) ⟨Nat.le_of_ble_eq_true rfl, Nat.le_of_ble_eq_true rfl⟩ ⟨Nat.le_of_ble_eq_true rfl, Nat.le_of_ble_eq_true rfl⟩ (Nat.le_of_ble_eq_true rfl) dX6_like_9 ?_
  refine GG.pm0 C rfl dX6_like_12 ?_
  refine GG.topS fun S3 hS3 => ?_
  have hf := ltb_s hS3 hf
  refine GG.aload_n C dX6_like_15 0 rfl ?_
  refine GG.gm0 C rfl dX6_like_16 ?_
  refine GG.if_le C (tgt := 24) dX6_like_19 (by decide) (fun c4 => ?_) (fun c4 => ?_)
  · have hf := if_t hf c4
    refine GG.aload_n C dX6_like_24 0 rfl ?_
    refine GG.aload_n C dX6_like_25 0 rfl ?_
    refine GG.iload_n C dX6_like_26 1 rfl ?_
    refine GG.aload_n C dX6_like_27 0 rfl ?_
    refine GG.gm23 C rfl dX6_like_28 ?_
    obtain ⟨p5, hp5, hf⟩ := obd_some hf
    refine GG.c_X6_352 C rfl (gX6_listOf hp5) ⟨Nat.le_of_ble_eq_true rfl, Nat.le_of_ble_eq_true rfl⟩ ⟨Nat.le_of_ble_eq_true rfl, Nat.le_of_ble_eq_true rfl⟩ (Nat.le_of_ble_eq_true rfl) dX6_like_31 ?_
    refine GG.pm25 C rfl dX6_like_34 ?_
    refine GG.topS fun S6 hS6 => ?_
    have hf := ltb_s hS6 hf
    refine GG.aload_n C dX6_like_37 0 rfl ?_
    refine GG.aload_n C dX6_like_38 0 rfl ?_
    refine GG.iload_n C dX6_like_39 2 rfl ?_
    refine GG.aload_n C dX6_like_40 0 rfl ?_
    refine GG.gm24 C rfl dX6_like_41 ?_
    obtain ⟨p7, hp7, hf⟩ := obd_some hf
    refine GG.c_X6_352 C rfl (gX6_listOf hp7) ⟨Nat.le_of_ble_eq_true rfl, Nat.le_of_ble_eq_true rfl⟩ ⟨Nat.le_of_ble_eq_true rfl, Nat.le_of_ble_eq_true rfl⟩ (Nat.le_of_ble_eq_true rfl) dX6_like_44 ?_
    refine GG.pm26 C rfl dX6_like_47 ?_
    refine GG.topS fun S8 hS8 => ?_
    have hf := ltb_s hS8 hf
    refine GG.aload_n C dX6_like_50 0 rfl ?_
    refine GG.gm25 C rfl dX6_like_51 ?_
    refine GG.aload_n C dX6_like_54 0 rfl ?_
    refine GG.gm26 C rfl dX6_like_55 ?_
    refine GG.icmp_eq C (tgt := 63) dX6_like_58 (by decide) (fun c9 => ?_) (fun c9 => ?_)
    · have hf := if_t hf c9
      refine GG.iconst C dX6_like_63 ic_0 ?_
      refine GG.istore_n C (lv' := [(3, .int (nI 0)), (0, .ref (kh K)), (1, .int a1), (2, .int a2)]) dX6_like_64 (by decide) rfl ?_
      refine GG.sub [1, 2, 3, 0] rfl ?_
      exact gX6_like_65 C E  FU _ _ _ _ hf
    · have hf := if_f hf c9
      refine GG.iconst C dX6_like_61 ic_0 ?_
      have hf := Option.some.inj hf
      subst hf
      exact GG.iret C E dX6_like_62
  · have hf := if_f hf c4
    refine GG.iconst C dX6_like_22 ic_m1 ?_
    have hf := Option.some.inj hf
    subst hf
    exact GG.iret C E dX6_like_23
theorem gX6_apart_68 {K : gK} {X : gX} {M : XS} (C : gC K X cX6_apart 4 yX6_apart (some Jvm.ClassFile.FieldType.int) rX6_apart)  {o : (Int32 × MS)} (E : gE K X (some (.int o.1)) M (some o.2) rX6_apart.cells rX6_apart.slots) {k52 : MS → Int32 → Int32 → Int32 → Option (Int32 × MS)} (hk52 : ∀ (S : MS) (a1 : Int32) (a2 : Int32) (a3 : Int32), k52 S a1 a2 a3 = some o → GG K X 4 0 0 M (some S) 52 [(0, .ref (kh K)), (1, .int a1), (2, .int a2), (3, .int a3)] []) :
    ∀ (S : MS) (a1 : Int32) (a2 : Int32) (a3 : Int32), fX6_apart_68 k52 S a1 a2 a3 = some o → GG K X 4 0 0 M (some S) 68 [(0, .ref (kh K)), (1, .int a1), (2, .int a2), (3, .int a3)] [] := by
  intro S a1 a2 a3 hf
  unfold fX6_apart_68 at hf
  refine GG.iload_n C dX6_apart_68 3 rfl ?_
  refine GG.aload_n C dX6_apart_69 0 rfl ?_
  refine GG.gm25 C rfl dX6_apart_70 ?_
  refine GG.icmp_ge C (tgt := 126) dX6_apart_73 (by decide) (fun c12 => ?_) (fun c12 => ?_)
  · have hf := if_t hf c12
    refine GG.iload_n C dX6_apart_126 3 rfl ?_
    have hf := Option.some.inj hf
    subst hf
    exact GG.iret C E dX6_apart_127
  · have hf := if_f hf c12
    refine GG.iload_n C dX6_apart_76 3 rfl ?_
    refine GG.aload_n C dX6_apart_77 0 rfl ?_
    refine GG.gm26 C rfl dX6_apart_78 ?_
    refine GG.icmp_ge C (tgt := 126) dX6_apart_81 (by decide) (fun c13 => ?_) (fun c13 => ?_)
    · have hf := if_t hf c13
      refine GG.iload_n C dX6_apart_126 3 rfl ?_
      have hf := Option.some.inj hf
      subst hf
      exact GG.iret C E dX6_apart_127
    · have hf := if_f hf c13
      refine GG.aload_n C dX6_apart_84 0 rfl ?_
      refine GG.gm23 C rfl dX6_apart_85 ?_
      refine GG.iload_n C dX6_apart_88 3 rfl ?_
      obtain ⟨v14, hv14, hf⟩ := obd_some hf
      refine GG.mi C rfl hv14 dX6_apart_89 ?_
      refine GG.aload_n C dX6_apart_90 0 rfl ?_
      refine GG.gm24 C rfl dX6_apart_91 ?_
      refine GG.iload_n C dX6_apart_94 3 rfl ?_
      obtain ⟨v15, hv15, hf⟩ := obd_some hf
      refine GG.mi C rfl hv15 dX6_apart_95 ?_
      refine GG.icmp_ne C (tgt := 126) dX6_apart_96 (by decide) (fun c16 => ?_) (fun c16 => ?_)
      · have hf := if_f hf c16
        refine GG.iload_n C dX6_apart_126 3 rfl ?_
        have hf := Option.some.inj hf
        subst hf
        exact GG.iret C E dX6_apart_127
      · have hf := if_t hf c16
        refine GG.aload_n C dX6_apart_99 0 rfl ?_
        refine GG.iload_n C dX6_apart_100 1 rfl ?_
        refine GG.aload_n C dX6_apart_101 0 rfl ?_
        refine GG.gm23 C rfl dX6_apart_102 ?_
        refine GG.iload_n C dX6_apart_105 3 rfl ?_
        obtain ⟨v17, hv17, hf⟩ := obd_some hf
        refine GG.mi C rfl hv17 dX6_apart_106 ?_
        refine GG.iconst C dX6_apart_107 ic_2 ?_
        obtain ⟨v18, hv18, hf⟩ := obd_some hf
        refine GG.c_X6_346 C rfl (gX6_toldBy hv18) ⟨Nat.le_of_ble_eq_true rfl, Nat.le_of_ble_eq_true rfl⟩ ⟨Nat.le_of_ble_eq_true rfl, Nat.le_of_ble_eq_true rfl⟩ (Nat.le_of_ble_eq_true rfl) dX6_apart_108 ?_
        refine GG.aload_n C dX6_apart_111 0 rfl ?_
        refine GG.iload_n C dX6_apart_112 2 rfl ?_
        refine GG.aload_n C dX6_apart_113 0 rfl ?_
        refine GG.gm23 C rfl dX6_apart_114 ?_
        refine GG.iload_n C dX6_apart_117 3 rfl ?_
        obtain ⟨v19, hv19, hf⟩ := obd_some hf
        refine GG.mi C rfl hv19 dX6_apart_118 ?_
        refine GG.iconst C dX6_apart_119 ic_2 ?_
        obtain ⟨v20, hv20, hf⟩ := obd_some hf
        refine GG.c_X6_346 C rfl (gX6_toldBy hv20) ⟨Nat.le_of_ble_eq_true rfl, Nat.le_of_ble_eq_true rfl⟩ ⟨Nat.le_of_ble_eq_true rfl, Nat.le_of_ble_eq_true rfl⟩ (Nat.le_of_ble_eq_true rfl) dX6_apart_120 ?_
        refine GG.icmp_eq C (tgt := 128) dX6_apart_123 (by decide) (fun c21 => ?_) (fun c21 => ?_)
        · have hf := if_t hf c21
          refine GG.iinc C (v := (a3 + (nI 1))) (lv' := [(3, .int (a3 + (nI 1))), (0, .ref (kh K)), (1, .int a1), (2, .int a2)]) dX6_apart_128 3 rfl (congrArg (a3 + ·) ic_1) (by decide) rfl ?_
          refine GG.goto C (tgt := 52) dX6_apart_131 (by decide) ?_
          refine GG.sub [1, 2, 3, 0] rfl ?_
          exact hk52 _ _ _ _ hf
        · have hf := if_f hf c21
          refine GG.iload_n C dX6_apart_126 3 rfl ?_
          have hf := Option.some.inj hf
          subst hf
          exact GG.iret C E dX6_apart_127
theorem gX6_apart_52 {K : gK} {X : gX} {M : XS} (C : gC K X cX6_apart 4 yX6_apart (some Jvm.ClassFile.FieldType.int) rX6_apart)  {o : (Int32 × MS)} (E : gE K X (some (.int o.1)) M (some o.2) rX6_apart.cells rX6_apart.slots)   :
    ∀ (n : Nat) (S : MS) (a1 : Int32) (a2 : Int32) (a3 : Int32), fX6_apart_52  n S a1 a2 a3 = some o → GG K X 4 0 0 M (some S) 52 [(0, .ref (kh K)), (1, .int a1), (2, .int a2), (3, .int a3)] [] := by
  intro n
  induction n with
  | zero => intro S a1 a2 a3 hf; cases hf
  | succ n ih =>
    intro S a1 a2 a3 hf
    rw [fX6_apart_52] at hf
    refine GG.iload_n C dX6_apart_52 3 rfl ?_
    refine GG.aload_n C dX6_apart_53 0 rfl ?_
    refine GG.gm25 C rfl dX6_apart_54 ?_
    refine GG.icmp_lt C (tgt := 68) dX6_apart_57 (by decide) (fun c9 => ?_) (fun c9 => ?_)
    · have hf := if_t hf c9
      refine GG.sub [0, 1, 2, 3] rfl ?_
      exact gX6_apart_68 C E (hk52 := ih) _ _ _ _ hf
    · have hf := if_f hf c9
      refine GG.iload_n C dX6_apart_60 3 rfl ?_
      refine GG.aload_n C dX6_apart_61 0 rfl ?_
      refine GG.gm26 C rfl dX6_apart_62 ?_
      refine GG.icmp_ge C (tgt := 134) dX6_apart_65 (by decide) (fun c10 => ?_) (fun c10 => ?_)
      · have hf := if_t hf c10
        refine GG.aload_n C dX6_apart_134 0 rfl ?_
        refine GG.bipush C dX6_apart_135 bp_8 ?_
        obtain ⟨p11, hp11, hf⟩ := obd_some hf
        refine GG.c_X6_299 C rfl (gX6_refuse hp11) ⟨Nat.le_of_ble_eq_true rfl, Nat.le_of_ble_eq_true rfl⟩ ⟨Nat.le_of_ble_eq_true rfl, Nat.le_of_ble_eq_true rfl⟩ (Nat.le_of_ble_eq_true rfl) dX6_apart_137 ?_
        have hf := Option.some.inj hf
        subst hf
        exact GG.iret C E dX6_apart_140
      · have hf := if_f hf c10
        refine GG.sub [0, 1, 2, 3] rfl ?_
        exact gX6_apart_68 C E (hk52 := ih) _ _ _ _ hf
theorem gX6_apart {K : gK} {M : XS}  {S : MS} {a1 : Int32} {a2 : Int32} {o : (Int32 × MS)} (hf : fX6_apart S a1 a2 = some o) : gMet K yX6_apart cX6_apart 4 (some Jvm.ClassFile.FieldType.int) rX6_apart [(.ref (kh K)), (.int a1), (.int a2)] M (some S) (some (.int o.1)) M (some o.2) := by
  refine gMet.of pn_X6 (Nat.le_of_ble_eq_true rfl) fun X C E => ?_
  unfold fX6_apart at hf
  show GG K X 4 0 0 M (some S) 0 [(0, .ref (kh K)), (1, .int a1), (2, .int a2)] []
  refine GG.aload_n C dX6_apart_0 0 rfl ?_
  refine GG.iconst C dX6_apart_1 ic_0 ?_
  refine GG.pm1 C rfl dX6_apart_2 ?_
  refine GG.topS fun S1 hS1 => ?_
  have hf := ltb_s hS1 hf
  refine GG.aload_n C dX6_apart_5 0 rfl ?_
  refine GG.aload_n C dX6_apart_6 0 rfl ?_
  refine GG.iload_n C dX6_apart_7 1 rfl ?_
  refine GG.iload_n C dX6_apart_8 2 rfl ?_
  obtain ⟨v2, hv2, hf⟩ := obd_some hf
  refine GG.c_X6_365 C rfl (gX6_whyNotTwo hv2) ⟨Nat.le_of_ble_eq_true rfl, Nat.le_of_ble_eq_true rfl⟩ ⟨Nat.le_of_ble_eq_true rfl, Nat.le_of_ble_eq_true rfl⟩ (Nat.le_of_ble_eq_true rfl) dX6_apart_9 ?_
  refine GG.pm0 C rfl dX6_apart_12 ?_
  refine GG.topS fun S3 hS3 => ?_
  have hf := ltb_s hS3 hf
  refine GG.aload_n C dX6_apart_15 0 rfl ?_
  refine GG.gm0 C rfl dX6_apart_16 ?_
  refine GG.if_le C (tgt := 24) dX6_apart_19 (by decide) (fun c4 => ?_) (fun c4 => ?_)
  · have hf := if_t hf c4
    refine GG.aload_n C dX6_apart_24 0 rfl ?_
    refine GG.aload_n C dX6_apart_25 0 rfl ?_
    refine GG.iload_n C dX6_apart_26 1 rfl ?_
    refine GG.aload_n C dX6_apart_27 0 rfl ?_
    refine GG.gm23 C rfl dX6_apart_28 ?_
    obtain ⟨p5, hp5, hf⟩ := obd_some hf
    refine GG.c_X6_352 C rfl (gX6_listOf hp5) ⟨Nat.le_of_ble_eq_true rfl, Nat.le_of_ble_eq_true rfl⟩ ⟨Nat.le_of_ble_eq_true rfl, Nat.le_of_ble_eq_true rfl⟩ (Nat.le_of_ble_eq_true rfl) dX6_apart_31 ?_
    refine GG.pm25 C rfl dX6_apart_34 ?_
    refine GG.topS fun S6 hS6 => ?_
    have hf := ltb_s hS6 hf
    refine GG.aload_n C dX6_apart_37 0 rfl ?_
    refine GG.aload_n C dX6_apart_38 0 rfl ?_
    refine GG.iload_n C dX6_apart_39 2 rfl ?_
    refine GG.aload_n C dX6_apart_40 0 rfl ?_
    refine GG.gm24 C rfl dX6_apart_41 ?_
    obtain ⟨p7, hp7, hf⟩ := obd_some hf
    refine GG.c_X6_352 C rfl (gX6_listOf hp7) ⟨Nat.le_of_ble_eq_true rfl, Nat.le_of_ble_eq_true rfl⟩ ⟨Nat.le_of_ble_eq_true rfl, Nat.le_of_ble_eq_true rfl⟩ (Nat.le_of_ble_eq_true rfl) dX6_apart_44 ?_
    refine GG.pm26 C rfl dX6_apart_47 ?_
    refine GG.topS fun S8 hS8 => ?_
    have hf := ltb_s hS8 hf
    refine GG.iconst C dX6_apart_50 ic_0 ?_
    refine GG.istore_n C (lv' := [(3, .int (nI 0)), (0, .ref (kh K)), (1, .int a1), (2, .int a2)]) dX6_apart_51 (by decide) rfl ?_
    refine GG.sub [1, 2, 3, 0] rfl ?_
    exact gX6_apart_52 C E  FU _ _ _ _ hf
  · have hf := if_f hf c4
    refine GG.iconst C dX6_apart_22 ic_m1 ?_
    have hf := Option.some.inj hf
    subst hf
    exact GG.iret C E dX6_apart_23
theorem gX6_quarrelsIn_4 {K : gK} {X : gX} {M : XS} {S : MS} (C : gC K X cX6_quarrelsIn 4 yX6_quarrelsIn (some Jvm.ClassFile.FieldType.int) rX6_quarrelsIn)  {o : Int32} (E : gE K X (some (.int o)) M (some S) rX6_quarrelsIn.cells rX6_quarrelsIn.slots)   :
    ∀ (n : Nat) (a1 : Int32) (a2 : Int32) (a3 : Int32), fX6_quarrelsIn_4 S n a1 a2 a3 = some o → GG K X 4 0 0 M (some S) 4 [(0, .ref (kh K)), (1, .int a1), (2, .int a2), (3, .int a3)] [] := by
  intro n
  induction n with
  | zero => intro a1 a2 a3 hf; cases hf
  | succ n ih =>
    intro a1 a2 a3 hf
    rw [fX6_quarrelsIn_4] at hf
    refine GG.iload_n C dX6_quarrelsIn_4 3 rfl ?_
    refine GG.aload_n C dX6_quarrelsIn_5 0 rfl ?_
    refine GG.gm20 C rfl dX6_quarrelsIn_6 ?_
    refine GG.iconst C dX6_quarrelsIn_9 ic_0 ?_
    obtain ⟨v1, hv1, hf⟩ := obd_some hf
    refine GG.mi C rfl hv1 dX6_quarrelsIn_10 ?_
    refine GG.icmp_ge C (tgt := 32) dX6_quarrelsIn_11 (by decide) (fun c2 => ?_) (fun c2 => ?_)
    · have hf := if_t hf c2
      refine GG.iload_n C dX6_quarrelsIn_32 2 rfl ?_
      refine GG.iconst C dX6_quarrelsIn_33 ic_2 ?_
      refine GG.idiv C dX6_quarrelsIn_34 (by decide) ?_
      have hf := Option.some.inj hf
      subst hf
      exact GG.iret C E dX6_quarrelsIn_35
    · have hf := if_f hf c2
      refine GG.iload_n C dX6_quarrelsIn_14 2 rfl ?_
      refine GG.aload_n C dX6_quarrelsIn_15 0 rfl ?_
      refine GG.iload_n C dX6_quarrelsIn_16 1 rfl ?_
      refine GG.iload_n C dX6_quarrelsIn_17 3 rfl ?_
      obtain ⟨v3, hv3, hf⟩ := obd_some hf
      refine GG.c_X6_334 C rfl (gX6_quarrelers hv3) ⟨Nat.le_of_ble_eq_true rfl, Nat.le_of_ble_eq_true rfl⟩ ⟨Nat.le_of_ble_eq_true rfl, Nat.le_of_ble_eq_true rfl⟩ (Nat.le_of_ble_eq_true rfl) dX6_quarrelsIn_18 ?_
      obtain ⟨v4, hv4, hf⟩ := obd_some hf
      refine GG.c_X6_325 C rfl (gX6_bits hv4) ⟨Nat.le_of_ble_eq_true rfl, Nat.le_of_ble_eq_true rfl⟩ ⟨Nat.le_of_ble_eq_true rfl, Nat.le_of_ble_eq_true rfl⟩ (Nat.le_of_ble_eq_true rfl) dX6_quarrelsIn_21 ?_
      refine GG.iadd C dX6_quarrelsIn_24 ?_
      refine GG.topi fun x5 hx5 => ?_
      have hf := ltb_s hx5 hf
      refine GG.istore_n C (lv' := [(2, .int x5), (0, .ref (kh K)), (1, .int a1), (3, .int a3)]) dX6_quarrelsIn_25 (by decide) rfl ?_
      refine GG.iinc C (v := (a3 + (nI 1))) (lv' := [(3, .int (a3 + (nI 1))), (2, .int x5), (0, .ref (kh K)), (1, .int a1)]) dX6_quarrelsIn_26 3 rfl (congrArg (a3 + ·) ic_1) (by decide) rfl ?_
      refine GG.goto C (tgt := 4) dX6_quarrelsIn_29 (by decide) ?_
      refine GG.sub [2, 3, 1, 0] rfl ?_
      exact ih _ _ _ hf
theorem gX6_quarrelsIn {K : gK} {M : XS}  {S : MS} {a1 : Int32} {o : Int32} (hf : fX6_quarrelsIn S a1 = some o) : gMet K yX6_quarrelsIn cX6_quarrelsIn 4 (some Jvm.ClassFile.FieldType.int) rX6_quarrelsIn [(.ref (kh K)), (.int a1)] M (some S) (some (.int o)) M (some S) := by
  refine gMet.of pn_X6 (Nat.le_of_ble_eq_true rfl) fun X C E => ?_
  unfold fX6_quarrelsIn at hf
  show GG K X 4 0 0 M (some S) 0 [(0, .ref (kh K)), (1, .int a1)] []
  refine GG.iconst C dX6_quarrelsIn_0 ic_0 ?_
  refine GG.istore_n C (lv' := [(2, .int (nI 0)), (0, .ref (kh K)), (1, .int a1)]) dX6_quarrelsIn_1 (by decide) rfl ?_
  refine GG.iconst C dX6_quarrelsIn_2 ic_0 ?_
  refine GG.istore_n C (lv' := [(3, .int (nI 0)), (2, .int (nI 0)), (0, .ref (kh K)), (1, .int a1)]) dX6_quarrelsIn_3 (by decide) rfl ?_
  refine GG.sub [2, 3, 1, 0] rfl ?_
  exact gX6_quarrelsIn_4 C E  FU _ _ _ hf
theorem gX6_quarrels {K : gK} {M : XS}  {S : MS} {a1 : Int32} {o : (Int32 × MS)} (hf : fX6_quarrels S a1 = some o) : gMet K yX6_quarrels cX6_quarrels 2 (some Jvm.ClassFile.FieldType.int) rX6_quarrels [(.ref (kh K)), (.int a1)] M (some S) (some (.int o.1)) M (some o.2) := by
  refine gMet.of pn_X6 (Nat.le_of_ble_eq_true rfl) fun X C E => ?_
  unfold fX6_quarrels at hf
  show GG K X 2 0 0 M (some S) 0 [(0, .ref (kh K)), (1, .int a1)] []
  refine GG.aload_n C dX6_quarrels_0 0 rfl ?_
  refine GG.iconst C dX6_quarrels_1 ic_0 ?_
  refine GG.pm1 C rfl dX6_quarrels_2 ?_
  refine GG.topS fun S1 hS1 => ?_
  have hf := ltb_s hS1 hf
  refine GG.aload_n C dX6_quarrels_5 0 rfl ?_
  refine GG.iconst C dX6_quarrels_6 ic_0 ?_
  refine GG.pm0 C rfl dX6_quarrels_7 ?_
  refine GG.topS fun S2 hS2 => ?_
  have hf := ltb_s hS2 hf
  refine GG.aload_n C dX6_quarrels_10 0 rfl ?_
  refine GG.iload_n C dX6_quarrels_11 1 rfl ?_
  obtain ⟨v3, hv3, hf⟩ := obd_some hf
  refine GG.c_X6_319 C rfl (gX6_isSet hv3) ⟨Nat.le_of_ble_eq_true rfl, Nat.le_of_ble_eq_true rfl⟩ ⟨Nat.le_of_ble_eq_true rfl, Nat.le_of_ble_eq_true rfl⟩ (Nat.le_of_ble_eq_true rfl) dX6_quarrels_12 ?_
  refine GG.if_eq C (tgt := 26) dX6_quarrels_15 (by decide) (fun c4 => ?_) (fun c4 => ?_)
  · have hf := if_t hf c4
    refine GG.aload_n C dX6_quarrels_26 0 rfl ?_
    refine GG.iconst C dX6_quarrels_27 ic_2 ?_
    obtain ⟨p5, hp5, hf⟩ := obd_some hf
    refine GG.c_X6_299 C rfl (gX6_refuse hp5) ⟨Nat.le_of_ble_eq_true rfl, Nat.le_of_ble_eq_true rfl⟩ ⟨Nat.le_of_ble_eq_true rfl, Nat.le_of_ble_eq_true rfl⟩ (Nat.le_of_ble_eq_true rfl) dX6_quarrels_28 ?_
    have hf := Option.some.inj hf
    subst hf
    exact GG.iret C E dX6_quarrels_31
  · have hf := if_f hf c4
    refine GG.aload_n C dX6_quarrels_18 0 rfl ?_
    refine GG.iload_n C dX6_quarrels_19 1 rfl ?_
    obtain ⟨v6, hv6, hf⟩ := obd_some hf
    refine GG.c_X6_371 C rfl (gX6_quarrelsIn hv6) ⟨Nat.le_of_ble_eq_true rfl, Nat.le_of_ble_eq_true rfl⟩ ⟨Nat.le_of_ble_eq_true rfl, Nat.le_of_ble_eq_true rfl⟩ (Nat.le_of_ble_eq_true rfl) dX6_quarrels_20 ?_
    refine GG.goto C (tgt := 31) dX6_quarrels_23 (by decide) ?_
    have hf := Option.some.inj hf
    subst hf
    exact GG.iret C E dX6_quarrels_31
theorem gX6_with {K : gK} {M : XS}  {S : MS} {a1 : Int32} {a2 : Int32} {o : (Int32 × MS)} (hf : fX6_with S a1 a2 = some o) : gMet K yX6_with cX6_with 3 (some Jvm.ClassFile.FieldType.int) rX6_with [(.ref (kh K)), (.int a1), (.int a2)] M (some S) (some (.int o.1)) M (some o.2) := by
  refine gMet.of pn_X6 (Nat.le_of_ble_eq_true rfl) fun X C E => ?_
  unfold fX6_with at hf
  show GG K X 3 0 0 M (some S) 0 [(0, .ref (kh K)), (1, .int a1), (2, .int a2)] []
  refine GG.aload_n C dX6_with_0 0 rfl ?_
  refine GG.iconst C dX6_with_1 ic_0 ?_
  refine GG.pm1 C rfl dX6_with_2 ?_
  refine GG.topS fun S1 hS1 => ?_
  have hf := ltb_s hS1 hf
  refine GG.aload_n C dX6_with_5 0 rfl ?_
  refine GG.iconst C dX6_with_6 ic_0 ?_
  refine GG.pm0 C rfl dX6_with_7 ?_
  refine GG.topS fun S2 hS2 => ?_
  have hf := ltb_s hS2 hf
  refine GG.aload_n C dX6_with_10 0 rfl ?_
  refine GG.iload_n C dX6_with_11 1 rfl ?_
  obtain ⟨v3, hv3, hf⟩ := obd_some hf
  refine GG.c_X6_319 C rfl (gX6_isSet hv3) ⟨Nat.le_of_ble_eq_true rfl, Nat.le_of_ble_eq_true rfl⟩ ⟨Nat.le_of_ble_eq_true rfl, Nat.le_of_ble_eq_true rfl⟩ (Nat.le_of_ble_eq_true rfl) dX6_with_12 ?_
  refine GG.if_eq C (tgt := 26) dX6_with_15 (by decide) (fun c4 => ?_) (fun c4 => ?_)
  · have hf := if_t hf c4
    refine GG.aload_n C dX6_with_26 0 rfl ?_
    refine GG.iconst C dX6_with_27 ic_2 ?_
    obtain ⟨p5, hp5, hf⟩ := obd_some hf
    refine GG.c_X6_299 C rfl (gX6_refuse hp5) ⟨Nat.le_of_ble_eq_true rfl, Nat.le_of_ble_eq_true rfl⟩ ⟨Nat.le_of_ble_eq_true rfl, Nat.le_of_ble_eq_true rfl⟩ (Nat.le_of_ble_eq_true rfl) dX6_with_28 ?_
    have hf := Option.some.inj hf
    subst hf
    exact GG.iret C E dX6_with_31
  · have hf := if_f hf c4
    refine GG.aload_n C dX6_with_18 0 rfl ?_
    refine GG.iload_n C dX6_with_19 2 rfl ?_
    obtain ⟨v6, hv6, hf⟩ := obd_some hf
    refine GG.c_X6_311 C rfl (gX6_isChange hv6) ⟨Nat.le_of_ble_eq_true rfl, Nat.le_of_ble_eq_true rfl⟩ ⟨Nat.le_of_ble_eq_true rfl, Nat.le_of_ble_eq_true rfl⟩ (Nat.le_of_ble_eq_true rfl) dX6_with_20 ?_
    refine GG.if_ne C (tgt := 32) dX6_with_23 (by decide) (fun c7 => ?_) (fun c7 => ?_)
    · have hf := if_f hf c7
      refine GG.iload_n C dX6_with_32 1 rfl ?_
      refine GG.iload_n C dX6_with_33 2 rfl ?_
      obtain ⟨v8, hv8, hf⟩ := obd_some hf
      refine GG.c_X6_302 C rfl (gX6_hasIn hv8) ⟨Nat.le_of_ble_eq_true rfl, Nat.le_of_ble_eq_true rfl⟩ ⟨Nat.le_of_ble_eq_true rfl, Nat.le_of_ble_eq_true rfl⟩ (Nat.le_of_ble_eq_true rfl) dX6_with_34 ?_
      refine GG.if_eq C (tgt := 49) dX6_with_37 (by decide) (fun c9 => ?_) (fun c9 => ?_)
      · have hf := if_t hf c9
        refine GG.aload_n C dX6_with_49 0 rfl ?_
        refine GG.bipush C dX6_with_50 bp_8 ?_
        obtain ⟨p10, hp10, hf⟩ := obd_some hf
        refine GG.c_X6_299 C rfl (gX6_refuse hp10) ⟨Nat.le_of_ble_eq_true rfl, Nat.le_of_ble_eq_true rfl⟩ ⟨Nat.le_of_ble_eq_true rfl, Nat.le_of_ble_eq_true rfl⟩ (Nat.le_of_ble_eq_true rfl) dX6_with_52 ?_
        have hf := Option.some.inj hf
        subst hf
        exact GG.iret C E dX6_with_55
      · have hf := if_f hf c9
        refine GG.aload_n C dX6_with_40 0 rfl ?_
        refine GG.iload_n C dX6_with_41 1 rfl ?_
        refine GG.iload_n C dX6_with_42 2 rfl ?_
        obtain ⟨v11, hv11, hf⟩ := obd_some hf
        refine GG.c_X6_334 C rfl (gX6_quarrelers hv11) ⟨Nat.le_of_ble_eq_true rfl, Nat.le_of_ble_eq_true rfl⟩ ⟨Nat.le_of_ble_eq_true rfl, Nat.le_of_ble_eq_true rfl⟩ (Nat.le_of_ble_eq_true rfl) dX6_with_43 ?_
        refine GG.goto C (tgt := 55) dX6_with_46 (by decide) ?_
        have hf := Option.some.inj hf
        subst hf
        exact GG.iret C E dX6_with_55
    · have hf := if_t hf c7
      refine GG.aload_n C dX6_with_26 0 rfl ?_
      refine GG.iconst C dX6_with_27 ic_2 ?_
      obtain ⟨p12, hp12, hf⟩ := obd_some hf
      refine GG.c_X6_299 C rfl (gX6_refuse hp12) ⟨Nat.le_of_ble_eq_true rfl, Nat.le_of_ble_eq_true rfl⟩ ⟨Nat.le_of_ble_eq_true rfl, Nat.le_of_ble_eq_true rfl⟩ (Nat.le_of_ble_eq_true rfl) dX6_with_28 ?_
      have hf := Option.some.inj hf
      subst hf
      exact GG.iret C E dX6_with_31
theorem gX6_isQuiet {K : gK} {M : XS}  {S : MS} {a1 : Int32} {o : Int32} (hf : fX6_isQuiet S a1 = some o) : gMet K yX6_isQuiet cX6_isQuiet 2 (some Jvm.ClassFile.FieldType.boolean) rX6_isQuiet [(.ref (kh K)), (.int a1)] M (some S) (some (.int o)) M (some S) := by
  refine gMet.of pn_X6 (Nat.le_of_ble_eq_true rfl) fun X C E => ?_
  unfold fX6_isQuiet at hf
  show GG K X 2 0 0 M (some S) 0 [(0, .ref (kh K)), (1, .int a1)] []
  refine GG.aload_n C dX6_isQuiet_0 0 rfl ?_
  refine GG.iload_n C dX6_isQuiet_1 1 rfl ?_
  obtain ⟨v1, hv1, hf⟩ := obd_some hf
  refine GG.c_X6_371 C rfl (gX6_quarrelsIn hv1) ⟨Nat.le_of_ble_eq_true rfl, Nat.le_of_ble_eq_true rfl⟩ ⟨Nat.le_of_ble_eq_true rfl, Nat.le_of_ble_eq_true rfl⟩ (Nat.le_of_ble_eq_true rfl) dX6_isQuiet_2 ?_
  refine GG.if_ne C (tgt := 12) dX6_isQuiet_5 (by decide) (fun c2 => ?_) (fun c2 => ?_)
  · have hf := if_f hf c2
    refine GG.iconst C dX6_isQuiet_12 ic_0 ?_
    have hf := Option.some.inj hf
    subst hf
    exact GG.zret C zb_0 E dX6_isQuiet_13
  · have hf := if_t hf c2
    refine GG.iconst C dX6_isQuiet_8 ic_1 ?_
    refine GG.goto C (tgt := 13) dX6_isQuiet_9 (by decide) ?_
    have hf := Option.some.inj hf
    subst hf
    exact GG.zret C zb_1 E dX6_isQuiet_13
theorem gX6_leastOut_58 {K : gK} {X : gX} {M : XS} (C : gC K X cX6_leastOut 4 yX6_leastOut (some Jvm.ClassFile.FieldType.int) rX6_leastOut)  {o : (Int32 × MS)} (E : gE K X (some (.int o.1)) M (some o.2) rX6_leastOut.cells rX6_leastOut.slots) {k27 : MS → Int32 → Int32 → Int32 → Option (Int32 × MS)} (hk27 : ∀ (S : MS) (a1 : Int32) (a2 : Int32) (a3 : Int32), k27 S a1 a2 a3 = some o → GG K X 4 0 0 M (some S) 27 [(0, .ref (kh K)), (1, .int a1), (2, .int a2), (3, .int a3)] []) :
    ∀ (S : MS) (a1 : Int32) (a2 : Int32) (a3 : Int32), fX6_leastOut_58 k27 S a1 a2 a3 = some o → GG K X 4 0 0 M (some S) 58 [(0, .ref (kh K)), (1, .int a1), (2, .int a2), (3, .int a3)] [] := by
  intro S a1 a2 a3 hf
  unfold fX6_leastOut_58 at hf
  refine GG.aload_n C dX6_leastOut_58 0 rfl ?_
  refine GG.iload_n C dX6_leastOut_59 1 rfl ?_
  refine GG.iload_n C dX6_leastOut_60 3 rfl ?_
  refine GG.iconst C dX6_leastOut_61 ic_m1 ?_
  refine GG.ixor C dX6_leastOut_62 ?_
  refine GG.iand C dX6_leastOut_63 ?_
  obtain ⟨v11, hv11, hf⟩ := obd_some hf
  refine GG.c_X6_322 C rfl (gX6_lackOf hv11) ⟨Nat.le_of_ble_eq_true rfl, Nat.le_of_ble_eq_true rfl⟩ ⟨Nat.le_of_ble_eq_true rfl, Nat.le_of_ble_eq_true rfl⟩ (Nat.le_of_ble_eq_true rfl) dX6_leastOut_64 ?_
  refine GG.if_ne C (tgt := 84) dX6_leastOut_67 (by decide) (fun c12 => ?_) (fun c12 => ?_)
  · have hf := if_f hf c12
    refine GG.iinc C (v := (a3 + (nI 1))) (lv' := [(3, .int (a3 + (nI 1))), (0, .ref (kh K)), (1, .int a1), (2, .int a2)]) dX6_leastOut_84 3 rfl (congrArg (a3 + ·) ic_1) (by decide) rfl ?_
    refine GG.goto C (tgt := 27) dX6_leastOut_87 (by decide) ?_
    refine GG.sub [1, 2, 3, 0] rfl ?_
    exact hk27 _ _ _ _ hf
  · have hf := if_t hf c12
    refine GG.aload_n C dX6_leastOut_70 0 rfl ?_
    refine GG.iload_n C dX6_leastOut_71 1 rfl ?_
    refine GG.iload_n C dX6_leastOut_72 3 rfl ?_
    refine GG.iconst C dX6_leastOut_73 ic_m1 ?_
    refine GG.ixor C dX6_leastOut_74 ?_
    refine GG.iand C dX6_leastOut_75 ?_
    obtain ⟨v13, hv13, hf⟩ := obd_some hf
    refine GG.c_X6_374 C rfl (gX6_isQuiet hv13) ⟨Nat.le_of_ble_eq_true rfl, Nat.le_of_ble_eq_true rfl⟩ ⟨Nat.le_of_ble_eq_true rfl, Nat.le_of_ble_eq_true rfl⟩ (Nat.le_of_ble_eq_true rfl) dX6_leastOut_76 ?_
    refine GG.if_eq C (tgt := 84) dX6_leastOut_79 (by decide) (fun c14 => ?_) (fun c14 => ?_)
    · have hf := if_t hf c14
      refine GG.iinc C (v := (a3 + (nI 1))) (lv' := [(3, .int (a3 + (nI 1))), (0, .ref (kh K)), (1, .int a1), (2, .int a2)]) dX6_leastOut_84 3 rfl (congrArg (a3 + ·) ic_1) (by decide) rfl ?_
      refine GG.goto C (tgt := 27) dX6_leastOut_87 (by decide) ?_
      refine GG.sub [1, 2, 3, 0] rfl ?_
      exact hk27 _ _ _ _ hf
    · have hf := if_f hf c14
      refine GG.iload_n C dX6_leastOut_82 3 rfl ?_
      refine GG.istore_n C (lv' := [(2, .int a3), (0, .ref (kh K)), (1, .int a1), (3, .int a3)]) dX6_leastOut_83 (by decide) rfl ?_
      refine GG.iinc C (v := (a3 + (nI 1))) (lv' := [(3, .int (a3 + (nI 1))), (2, .int a3), (0, .ref (kh K)), (1, .int a1)]) dX6_leastOut_84 3 rfl (congrArg (a3 + ·) ic_1) (by decide) rfl ?_
      refine GG.goto C (tgt := 27) dX6_leastOut_87 (by decide) ?_
      refine GG.sub [2, 3, 1, 0] rfl ?_
      exact hk27 _ _ _ _ hf
theorem gX6_leastOut_27 {K : gK} {X : gX} {M : XS} (C : gC K X cX6_leastOut 4 yX6_leastOut (some Jvm.ClassFile.FieldType.int) rX6_leastOut)  {o : (Int32 × MS)} (E : gE K X (some (.int o.1)) M (some o.2) rX6_leastOut.cells rX6_leastOut.slots)   :
    ∀ (n : Nat) (S : MS) (a1 : Int32) (a2 : Int32) (a3 : Int32), fX6_leastOut_27  n S a1 a2 a3 = some o → GG K X 4 0 0 M (some S) 27 [(0, .ref (kh K)), (1, .int a1), (2, .int a2), (3, .int a3)] [] := by
  intro n
  induction n with
  | zero => intro S a1 a2 a3 hf; cases hf
  | succ n ih =>
    intro S a1 a2 a3 hf
    rw [fX6_leastOut_27] at hf
    refine GG.iload_n C dX6_leastOut_27 3 rfl ?_
    refine GG.iload_n C dX6_leastOut_28 1 rfl ?_
    refine GG.icmp_gt C (tgt := 90) dX6_leastOut_29 (by decide) (fun c5 => ?_) (fun c5 => ?_)
    · have hf := if_t hf c5
      refine GG.iload_n C dX6_leastOut_90 2 rfl ?_
      have hf := Option.some.inj hf
      subst hf
      exact GG.iret C E dX6_leastOut_91
    · have hf := if_f hf c5
      refine GG.iload_n C dX6_leastOut_32 3 rfl ?_
      refine GG.iload_n C dX6_leastOut_33 1 rfl ?_
      refine GG.iconst C dX6_leastOut_34 ic_m1 ?_
      refine GG.ixor C dX6_leastOut_35 ?_
      refine GG.iand C dX6_leastOut_36 ?_
      refine GG.if_ne C (tgt := 84) dX6_leastOut_37 (by decide) (fun c6 => ?_) (fun c6 => ?_)
      · have hf := if_f hf c6
        refine GG.iinc C (v := (a3 + (nI 1))) (lv' := [(3, .int (a3 + (nI 1))), (0, .ref (kh K)), (1, .int a1), (2, .int a2)]) dX6_leastOut_84 3 rfl (congrArg (a3 + ·) ic_1) (by decide) rfl ?_
        refine GG.goto C (tgt := 27) dX6_leastOut_87 (by decide) ?_
        refine GG.sub [1, 2, 3, 0] rfl ?_
        exact ih _ _ _ _ hf
      · have hf := if_t hf c6
        refine GG.iload_n C dX6_leastOut_40 2 rfl ?_
        refine GG.if_lt C (tgt := 58) dX6_leastOut_41 (by decide) (fun c7 => ?_) (fun c7 => ?_)
        · have hf := if_t hf c7
          refine GG.sub [0, 1, 2, 3] rfl ?_
          exact gX6_leastOut_58 C E (hk27 := ih) _ _ _ _ hf
        · have hf := if_f hf c7
          refine GG.iload_n C dX6_leastOut_44 3 rfl ?_
          obtain ⟨v8, hv8, hf⟩ := obd_some hf
          refine GG.c_X6_325 C rfl (gX6_bits hv8) ⟨Nat.le_of_ble_eq_true rfl, Nat.le_of_ble_eq_true rfl⟩ ⟨Nat.le_of_ble_eq_true rfl, Nat.le_of_ble_eq_true rfl⟩ (Nat.le_of_ble_eq_true rfl) dX6_leastOut_45 ?_
          refine GG.iload_n C dX6_leastOut_48 2 rfl ?_
          obtain ⟨v9, hv9, hf⟩ := obd_some hf
          refine GG.c_X6_325 C rfl (gX6_bits hv9) ⟨Nat.le_of_ble_eq_true rfl, Nat.le_of_ble_eq_true rfl⟩ ⟨Nat.le_of_ble_eq_true rfl, Nat.le_of_ble_eq_true rfl⟩ (Nat.le_of_ble_eq_true rfl) dX6_leastOut_49 ?_
          refine GG.icmp_lt C (tgt := 58) dX6_leastOut_52 (by decide) (fun c10 => ?_) (fun c10 => ?_)
          · have hf := if_t hf c10
            refine GG.sub [0, 1, 2, 3] rfl ?_
            exact gX6_leastOut_58 C E (hk27 := ih) _ _ _ _ hf
          · have hf := if_f hf c10
            refine GG.goto C (tgt := 84) dX6_leastOut_55 (by decide) ?_
            refine GG.iinc C (v := (a3 + (nI 1))) (lv' := [(3, .int (a3 + (nI 1))), (0, .ref (kh K)), (1, .int a1), (2, .int a2)]) dX6_leastOut_84 3 rfl (congrArg (a3 + ·) ic_1) (by decide) rfl ?_
            refine GG.goto C (tgt := 27) dX6_leastOut_87 (by decide) ?_
            refine GG.sub [1, 2, 3, 0] rfl ?_
            exact ih _ _ _ _ hf
theorem gX6_leastOut {K : gK} {M : XS}  {S : MS} {a1 : Int32} {o : (Int32 × MS)} (hf : fX6_leastOut S a1 = some o) : gMet K yX6_leastOut cX6_leastOut 4 (some Jvm.ClassFile.FieldType.int) rX6_leastOut [(.ref (kh K)), (.int a1)] M (some S) (some (.int o.1)) M (some o.2) := by
  refine gMet.of pn_X6 (Nat.le_of_ble_eq_true rfl) fun X C E => ?_
  unfold fX6_leastOut at hf
  show GG K X 4 0 0 M (some S) 0 [(0, .ref (kh K)), (1, .int a1)] []
  refine GG.aload_n C dX6_leastOut_0 0 rfl ?_
  refine GG.iconst C dX6_leastOut_1 ic_0 ?_
  refine GG.pm1 C rfl dX6_leastOut_2 ?_
  refine GG.topS fun S1 hS1 => ?_
  have hf := ltb_s hS1 hf
  refine GG.aload_n C dX6_leastOut_5 0 rfl ?_
  refine GG.aload_n C dX6_leastOut_6 0 rfl ?_
  refine GG.iload_n C dX6_leastOut_7 1 rfl ?_
  obtain ⟨v2, hv2, hf⟩ := obd_some hf
  refine GG.c_X6_349 C rfl (gX6_whyNot hv2) ⟨Nat.le_of_ble_eq_true rfl, Nat.le_of_ble_eq_true rfl⟩ ⟨Nat.le_of_ble_eq_true rfl, Nat.le_of_ble_eq_true rfl⟩ (Nat.le_of_ble_eq_true rfl) dX6_leastOut_8 ?_
  refine GG.pm0 C rfl dX6_leastOut_11 ?_
  refine GG.topS fun S3 hS3 => ?_
  have hf := ltb_s hS3 hf
  refine GG.aload_n C dX6_leastOut_14 0 rfl ?_
  refine GG.gm0 C rfl dX6_leastOut_15 ?_
  refine GG.if_le C (tgt := 23) dX6_leastOut_18 (by decide) (fun c4 => ?_) (fun c4 => ?_)
  · have hf := if_t hf c4
    refine GG.iconst C dX6_leastOut_23 ic_m1 ?_
    refine GG.istore_n C (lv' := [(2, .int (-1 : Int32)), (0, .ref (kh K)), (1, .int a1)]) dX6_leastOut_24 (by decide) rfl ?_
    refine GG.iconst C dX6_leastOut_25 ic_0 ?_
    refine GG.istore_n C (lv' := [(3, .int (nI 0)), (2, .int (-1 : Int32)), (0, .ref (kh K)), (1, .int a1)]) dX6_leastOut_26 (by decide) rfl ?_
    refine GG.sub [2, 3, 1, 0] rfl ?_
    exact gX6_leastOut_27 C E  FU _ _ _ _ hf
  · have hf := if_f hf c4
    refine GG.iconst C dX6_leastOut_21 ic_m1 ?_
    have hf := Option.some.inj hf
    subst hf
    exact GG.iret C E dX6_leastOut_22
theorem gX6_mostQuiet_14 {K : gK} {X : gX} {M : XS} (C : gC K X cX6_mostQuiet 3 yX6_mostQuiet (some Jvm.ClassFile.FieldType.int) rX6_mostQuiet)  {o : (Int32 × MS)} (E : gE K X (some (.int o.1)) M (some o.2) rX6_mostQuiet.cells rX6_mostQuiet.slots)   :
    ∀ (n : Nat) (S : MS) (a1 : Int32) (a2 : Int32), fX6_mostQuiet_14  n S a1 a2 = some o → GG K X 3 0 0 M (some S) 14 [(0, .ref (kh K)), (1, .int a1), (2, .int a2)] [] := by
  intro n
  induction n with
  | zero => intro S a1 a2 hf; cases hf
  | succ n ih =>
    intro S a1 a2 hf
    rw [fX6_mostQuiet_14] at hf
    refine GG.iload_n C dX6_mostQuiet_14 2 rfl ?_
    refine GG.iconst C dX6_mostQuiet_15 ic_1 ?_
    refine GG.aload_n C dX6_mostQuiet_16 0 rfl ?_
    refine GG.gm20 C rfl dX6_mostQuiet_17 ?_
    refine GG.iconst C dX6_mostQuiet_20 ic_0 ?_
    obtain ⟨v3, hv3, hf⟩ := obd_some hf
    refine GG.mi C rfl hv3 dX6_mostQuiet_21 ?_
    refine GG.ishl C dX6_mostQuiet_22 ?_
    refine GG.icmp_ge C (tgt := 61) dX6_mostQuiet_23 (by decide) (fun c4 => ?_) (fun c4 => ?_)
    · have hf := if_t hf c4
      refine GG.iload_n C dX6_mostQuiet_61 1 rfl ?_
      have hf := Option.some.inj hf
      subst hf
      exact GG.iret C E dX6_mostQuiet_62
    · have hf := if_f hf c4
      refine GG.iload_n C dX6_mostQuiet_26 2 rfl ?_
      obtain ⟨v5, hv5, hf⟩ := obd_some hf
      refine GG.c_X6_325 C rfl (gX6_bits hv5) ⟨Nat.le_of_ble_eq_true rfl, Nat.le_of_ble_eq_true rfl⟩ ⟨Nat.le_of_ble_eq_true rfl, Nat.le_of_ble_eq_true rfl⟩ (Nat.le_of_ble_eq_true rfl) dX6_mostQuiet_27 ?_
      refine GG.iload_n C dX6_mostQuiet_30 1 rfl ?_
      refine GG.icmp_le C (tgt := 55) dX6_mostQuiet_31 (by decide) (fun c6 => ?_) (fun c6 => ?_)
      · have hf := if_t hf c6
        refine GG.iinc C (v := (a2 + (nI 1))) (lv' := [(2, .int (a2 + (nI 1))), (0, .ref (kh K)), (1, .int a1)]) dX6_mostQuiet_55 2 rfl (congrArg (a2 + ·) ic_1) (by decide) rfl ?_
        refine GG.goto C (tgt := 14) dX6_mostQuiet_58 (by decide) ?_
        refine GG.sub [1, 2, 0] rfl ?_
        exact ih _ _ _ hf
      · have hf := if_f hf c6
        refine GG.aload_n C dX6_mostQuiet_34 0 rfl ?_
        refine GG.iload_n C dX6_mostQuiet_35 2 rfl ?_
        obtain ⟨v7, hv7, hf⟩ := obd_some hf
        refine GG.c_X6_322 C rfl (gX6_lackOf hv7) ⟨Nat.le_of_ble_eq_true rfl, Nat.le_of_ble_eq_true rfl⟩ ⟨Nat.le_of_ble_eq_true rfl, Nat.le_of_ble_eq_true rfl⟩ (Nat.le_of_ble_eq_true rfl) dX6_mostQuiet_36 ?_
        refine GG.if_ne C (tgt := 55) dX6_mostQuiet_39 (by decide) (fun c8 => ?_) (fun c8 => ?_)
        · have hf := if_f hf c8
          refine GG.iinc C (v := (a2 + (nI 1))) (lv' := [(2, .int (a2 + (nI 1))), (0, .ref (kh K)), (1, .int a1)]) dX6_mostQuiet_55 2 rfl (congrArg (a2 + ·) ic_1) (by decide) rfl ?_
          refine GG.goto C (tgt := 14) dX6_mostQuiet_58 (by decide) ?_
          refine GG.sub [1, 2, 0] rfl ?_
          exact ih _ _ _ hf
        · have hf := if_t hf c8
          refine GG.aload_n C dX6_mostQuiet_42 0 rfl ?_
          refine GG.iload_n C dX6_mostQuiet_43 2 rfl ?_
          obtain ⟨v9, hv9, hf⟩ := obd_some hf
          refine GG.c_X6_374 C rfl (gX6_isQuiet hv9) ⟨Nat.le_of_ble_eq_true rfl, Nat.le_of_ble_eq_true rfl⟩ ⟨Nat.le_of_ble_eq_true rfl, Nat.le_of_ble_eq_true rfl⟩ (Nat.le_of_ble_eq_true rfl) dX6_mostQuiet_44 ?_
          refine GG.if_eq C (tgt := 55) dX6_mostQuiet_47 (by decide) (fun c10 => ?_) (fun c10 => ?_)
          · have hf := if_t hf c10
            refine GG.iinc C (v := (a2 + (nI 1))) (lv' := [(2, .int (a2 + (nI 1))), (0, .ref (kh K)), (1, .int a1)]) dX6_mostQuiet_55 2 rfl (congrArg (a2 + ·) ic_1) (by decide) rfl ?_
            refine GG.goto C (tgt := 14) dX6_mostQuiet_58 (by decide) ?_
            refine GG.sub [1, 2, 0] rfl ?_
            exact ih _ _ _ hf
          · have hf := if_f hf c10
            refine GG.iload_n C dX6_mostQuiet_50 2 rfl ?_
            obtain ⟨v11, hv11, hf⟩ := obd_some hf
            refine GG.c_X6_325 C rfl (gX6_bits hv11) ⟨Nat.le_of_ble_eq_true rfl, Nat.le_of_ble_eq_true rfl⟩ ⟨Nat.le_of_ble_eq_true rfl, Nat.le_of_ble_eq_true rfl⟩ (Nat.le_of_ble_eq_true rfl) dX6_mostQuiet_51 ?_
            refine GG.istore_n C (lv' := [(1, .int v11), (0, .ref (kh K)), (2, .int a2)]) dX6_mostQuiet_54 (by decide) rfl ?_
            refine GG.iinc C (v := (a2 + (nI 1))) (lv' := [(2, .int (a2 + (nI 1))), (1, .int v11), (0, .ref (kh K))]) dX6_mostQuiet_55 2 rfl (congrArg (a2 + ·) ic_1) (by decide) rfl ?_
            refine GG.goto C (tgt := 14) dX6_mostQuiet_58 (by decide) ?_
            refine GG.sub [2, 1, 0] rfl ?_
            exact ih _ _ _ hf
theorem gX6_mostQuiet {K : gK} {M : XS}  {S : MS} {o : (Int32 × MS)} (hf : fX6_mostQuiet S = some o) : gMet K yX6_mostQuiet cX6_mostQuiet 3 (some Jvm.ClassFile.FieldType.int) rX6_mostQuiet [(.ref (kh K))] M (some S) (some (.int o.1)) M (some o.2) := by
  refine gMet.of pn_X6 (Nat.le_of_ble_eq_true rfl) fun X C E => ?_
  unfold fX6_mostQuiet at hf
  show GG K X 3 0 0 M (some S) 0 [(0, .ref (kh K))] []
  refine GG.aload_n C dX6_mostQuiet_0 0 rfl ?_
  refine GG.iconst C dX6_mostQuiet_1 ic_0 ?_
  refine GG.pm1 C rfl dX6_mostQuiet_2 ?_
  refine GG.topS fun S1 hS1 => ?_
  have hf := ltb_s hS1 hf
  refine GG.aload_n C dX6_mostQuiet_5 0 rfl ?_
  refine GG.iconst C dX6_mostQuiet_6 ic_0 ?_
  refine GG.pm0 C rfl dX6_mostQuiet_7 ?_
  refine GG.topS fun S2 hS2 => ?_
  have hf := ltb_s hS2 hf
  refine GG.iconst C dX6_mostQuiet_10 ic_0 ?_
  refine GG.istore_n C (lv' := [(1, .int (nI 0)), (0, .ref (kh K))]) dX6_mostQuiet_11 (by decide) rfl ?_
  refine GG.iconst C dX6_mostQuiet_12 ic_0 ?_
  refine GG.istore_n C (lv' := [(2, .int (nI 0)), (1, .int (nI 0)), (0, .ref (kh K))]) dX6_mostQuiet_13 (by decide) rfl ?_
  refine GG.sub [2, 1, 0] rfl ?_
  exact gX6_mostQuiet_14 C E  FU _ _ _ hf
theorem gX6_need_3 {K : gK} {X : gX} {M : XS} (C : gC K X cX6_need 5 yX6_need none rX6_need)  {o : MS} (E : gE K X none M (some o) rX6_need.cells rX6_need.slots)   :
    ∀ (n : Nat) (S : MS) (a1 : Int32) (a2 : Int32) (a3 : Int32) (a4 : Int32), fX6_need_3  n S a1 a2 a3 a4 = some o → GG K X 5 0 0 M (some S) 3 [(0, .ref (kh K)), (1, .int a1), (2, .int a2), (3, .int a3), (4, .int a4)] [] := by
  intro n
  induction n with
  | zero => intro S a1 a2 a3 a4 hf; cases hf
  | succ n ih =>
    intro S a1 a2 a3 a4 hf
    rw [fX6_need_3] at hf
    refine GG.iload C dX6_need_3 4 rfl ?_
    refine GG.aload_n C dX6_need_5 0 rfl ?_
    refine GG.gm20 C rfl dX6_need_6 ?_
    refine GG.iconst C dX6_need_9 ic_0 ?_
    obtain ⟨v1, hv1, hf⟩ := obd_some hf
    refine GG.mi C rfl hv1 dX6_need_10 ?_
    refine GG.icmp_ge C (tgt := 36) dX6_need_11 (by decide) (fun c2 => ?_) (fun c2 => ?_)
    · have hf := if_t hf c2
      refine GG.iload_n C dX6_need_36 3 rfl ?_
      refine GG.if_lt C (tgt := 52) dX6_need_37 (by decide) (fun c3 => ?_) (fun c3 => ?_)
      · have hf := if_t hf c3
        have hf := Option.some.inj hf
        subst hf
        exact GG.vret C E dX6_need_52
      · have hf := if_f hf c3
        refine GG.aload_n C dX6_need_40 0 rfl ?_
        refine GG.gm28 C rfl dX6_need_41 ?_
        refine GG.iload_n C dX6_need_44 3 rfl ?_
        refine GG.dup2 C dX6_need_45 rfl rfl ?_
        obtain ⟨v4, hv4, hf⟩ := obd_some hf
        refine GG.mi C rfl hv4 dX6_need_46 ?_
        refine GG.iconst C dX6_need_47 ic_1 ?_
        refine GG.iload_n C dX6_need_48 2 rfl ?_
        refine GG.ishl C dX6_need_49 ?_
        refine GG.ior C dX6_need_50 ?_
        obtain ⟨S5, hS5, hf⟩ := obd_some hf
        refine GG.mis C rfl hS5 dX6_need_51 ?_
        have hf := Option.some.inj hf
        subst hf
        exact GG.vret C E dX6_need_52
    · have hf := if_f hf c2
      refine GG.aload_n C dX6_need_14 0 rfl ?_
      refine GG.gm28 C rfl dX6_need_15 ?_
      refine GG.iload C dX6_need_18 4 rfl ?_
      refine GG.aload_n C dX6_need_20 0 rfl ?_
      refine GG.iconst C dX6_need_21 ic_0 ?_
      refine GG.iload C dX6_need_22 4 rfl ?_
      obtain ⟨v6, hv6, hf⟩ := obd_some hf
      refine GG.c_X6_249 C rfl (gX6_hangsOn hv6) ⟨Nat.le_of_ble_eq_true rfl, Nat.le_of_ble_eq_true rfl⟩ ⟨Nat.le_of_ble_eq_true rfl, Nat.le_of_ble_eq_true rfl⟩ (Nat.le_of_ble_eq_true rfl) dX6_need_24 ?_
      refine GG.iload_n C dX6_need_27 1 rfl ?_
      refine GG.iand C dX6_need_28 ?_
      obtain ⟨S7, hS7, hf⟩ := obd_some hf
      refine GG.mis C rfl hS7 dX6_need_29 ?_
      refine GG.iinc C (v := (a4 + (nI 1))) (lv' := [(4, .int (a4 + (nI 1))), (0, .ref (kh K)), (1, .int a1), (2, .int a2), (3, .int a3)]) dX6_need_30 4 rfl (congrArg (a4 + ·) ic_1) (by decide) rfl ?_
      refine GG.goto C (tgt := 3) dX6_need_33 (by decide) ?_
      refine GG.sub [1, 2, 3, 4, 0] rfl ?_
      exact ih _ _ _ _ _ hf
theorem gX6_need {K : gK} {M : XS}  {S : MS} {a1 : Int32} {a2 : Int32} {a3 : Int32} {o : MS} (hf : fX6_need S a1 a2 a3 = some o) : gMet K yX6_need cX6_need 5 none rX6_need [(.ref (kh K)), (.int a1), (.int a2), (.int a3)] M (some S) none M (some o) := by
  refine gMet.of pn_X6 (Nat.le_of_ble_eq_true rfl) fun X C E => ?_
  unfold fX6_need at hf
  show GG K X 5 0 0 M (some S) 0 [(0, .ref (kh K)), (1, .int a1), (2, .int a2), (3, .int a3)] []
  refine GG.iconst C dX6_need_0 ic_0 ?_
  refine GG.istore C (lv' := [(4, .int (nI 0)), (0, .ref (kh K)), (1, .int a1), (2, .int a2), (3, .int a3)]) dX6_need_1 (by decide) rfl ?_
  refine GG.sub [1, 2, 3, 4, 0] rfl ?_
  exact gX6_need_3 C E  FU _ _ _ _ _ hf
theorem gX6_countWays_35 {K : gK} {X : gX} {M : XS} (C : gC K X cX6_countWays 4 yX6_countWays none rX6_countWays)  {o : MS} (E : gE K X none M (some o) rX6_countWays.cells rX6_countWays.slots) {k2 : MS → Int32 → Int32 → Option MS} (hk2 : ∀ (S : MS) (a1 : Int32) (a2 : Int32), k2 S a1 a2 = some o → GG K X 4 0 0 M (some S) 2 [(0, .ref (kh K)), (1, .int a1), (2, .int a2)] []) :
    ∀ (n : Nat) (S : MS) (a1 : Int32) (a2 : Int32) (a3 : Int32), fX6_countWays_35 k2 n S a1 a2 a3 = some o → GG K X 4 0 0 M (some S) 35 [(0, .ref (kh K)), (1, .int a1), (2, .int a2), (3, .int a3)] [] := by
  intro n
  induction n with
  | zero => intro S a1 a2 a3 hf; cases hf
  | succ n ih =>
    intro S a1 a2 a3 hf
    rw [fX6_countWays_35] at hf
    refine GG.iload_n C dX6_countWays_35 3 rfl ?_
    refine GG.aload_n C dX6_countWays_36 0 rfl ?_
    refine GG.gm20 C rfl dX6_countWays_37 ?_
    refine GG.iconst C dX6_countWays_40 ic_0 ?_
    obtain ⟨v6, hv6, hf⟩ := obd_some hf
    refine GG.mi C rfl hv6 dX6_countWays_41 ?_
    refine GG.icmp_ge C (tgt := 95) dX6_countWays_42 (by decide) (fun c7 => ?_) (fun c7 => ?_)
    · have hf := if_t hf c7
      refine GG.iinc C (v := (a2 + (-1 : Int32))) (lv' := [(2, .int (a2 + (-1 : Int32))), (0, .ref (kh K)), (1, .int a1), (3, .int a3)]) dX6_countWays_95 2 rfl (congrArg (a2 + ·) ic_m1) (by decide) rfl ?_
      refine GG.goto C (tgt := 2) dX6_countWays_98 (by decide) ?_
      refine GG.sub [1, 2, 0] rfl ?_
      exact hk2 _ _ _ hf
    · have hf := if_f hf c7
      refine GG.iload_n C dX6_countWays_45 1 rfl ?_
      refine GG.iload_n C dX6_countWays_46 2 rfl ?_
      refine GG.iconst C dX6_countWays_47 ic_m1 ?_
      refine GG.ixor C dX6_countWays_48 ?_
      refine GG.iand C dX6_countWays_49 ?_
      refine GG.iload_n C dX6_countWays_50 3 rfl ?_
      obtain ⟨v8, hv8, hf⟩ := obd_some hf
      refine GG.c_X6_302 C rfl (gX6_hasIn hv8) ⟨Nat.le_of_ble_eq_true rfl, Nat.le_of_ble_eq_true rfl⟩ ⟨Nat.le_of_ble_eq_true rfl, Nat.le_of_ble_eq_true rfl⟩ (Nat.le_of_ble_eq_true rfl) dX6_countWays_51 ?_
      refine GG.if_eq C (tgt := 89) dX6_countWays_54 (by decide) (fun c9 => ?_) (fun c9 => ?_)
      · have hf := if_t hf c9
        refine GG.iinc C (v := (a3 + (nI 1))) (lv' := [(3, .int (a3 + (nI 1))), (0, .ref (kh K)), (1, .int a1), (2, .int a2)]) dX6_countWays_89 3 rfl (congrArg (a3 + ·) ic_1) (by decide) rfl ?_
        refine GG.goto C (tgt := 35) dX6_countWays_92 (by decide) ?_
        refine GG.sub [1, 2, 3, 0] rfl ?_
        exact ih _ _ _ _ hf
      · have hf := if_f hf c9
        refine GG.aload_n C dX6_countWays_57 0 rfl ?_
        refine GG.gm28 C rfl dX6_countWays_58 ?_
        refine GG.iload_n C dX6_countWays_61 3 rfl ?_
        obtain ⟨v10, hv10, hf⟩ := obd_some hf
        refine GG.mi C rfl hv10 dX6_countWays_62 ?_
        refine GG.iload_n C dX6_countWays_63 2 rfl ?_
        refine GG.iconst C dX6_countWays_64 ic_m1 ?_
        refine GG.ixor C dX6_countWays_65 ?_
        refine GG.iand C dX6_countWays_66 ?_
        refine GG.if_ne C (tgt := 89) dX6_countWays_67 (by decide) (fun c11 => ?_) (fun c11 => ?_)
        · have hf := if_f hf c11
          refine GG.iinc C (v := (a3 + (nI 1))) (lv' := [(3, .int (a3 + (nI 1))), (0, .ref (kh K)), (1, .int a1), (2, .int a2)]) dX6_countWays_89 3 rfl (congrArg (a3 + ·) ic_1) (by decide) rfl ?_
          refine GG.goto C (tgt := 35) dX6_countWays_92 (by decide) ?_
          refine GG.sub [1, 2, 3, 0] rfl ?_
          exact ih _ _ _ _ hf
        · have hf := if_t hf c11
          refine GG.aload_n C dX6_countWays_70 0 rfl ?_
          refine GG.gm27 C rfl dX6_countWays_71 ?_
          refine GG.iload_n C dX6_countWays_74 2 rfl ?_
          refine GG.dup2 C dX6_countWays_75 rfl rfl ?_
          obtain ⟨v12, hv12, hf⟩ := obd_some hf
          refine GG.ml C hv12 dX6_countWays_76 ?_
          refine GG.aload_n C dX6_countWays_77 0 rfl ?_
          refine GG.gm27 C rfl dX6_countWays_78 ?_
          refine GG.iload_n C dX6_countWays_81 2 rfl ?_
          refine GG.iconst C dX6_countWays_82 ic_1 ?_
          refine GG.iload_n C dX6_countWays_83 3 rfl ?_
          refine GG.ishl C dX6_countWays_84 ?_
          refine GG.ior C dX6_countWays_85 ?_
          obtain ⟨v13, hv13, hf⟩ := obd_some hf
          refine GG.ml C hv13 dX6_countWays_86 ?_
          refine GG.ladd C dX6_countWays_87 ?_
          obtain ⟨S14, hS14, hf⟩ := obd_some hf
          refine GG.mls C hS14 dX6_countWays_88 ?_
          refine GG.iinc C (v := (a3 + (nI 1))) (lv' := [(3, .int (a3 + (nI 1))), (0, .ref (kh K)), (1, .int a1), (2, .int a2)]) dX6_countWays_89 3 rfl (congrArg (a3 + ·) ic_1) (by decide) rfl ?_
          refine GG.goto C (tgt := 35) dX6_countWays_92 (by decide) ?_
          refine GG.sub [1, 2, 3, 0] rfl ?_
          exact ih _ _ _ _ hf
theorem gX6_countWays_2 {K : gK} {X : gX} {M : XS} (C : gC K X cX6_countWays 4 yX6_countWays none rX6_countWays)  {o : MS} (E : gE K X none M (some o) rX6_countWays.cells rX6_countWays.slots)   :
    ∀ (n : Nat) (S : MS) (a1 : Int32) (a2 : Int32), fX6_countWays_2  n S a1 a2 = some o → GG K X 4 0 0 M (some S) 2 [(0, .ref (kh K)), (1, .int a1), (2, .int a2)] [] := by
  intro n
  induction n with
  | zero => intro S a1 a2 hf; cases hf
  | succ n ih =>
    intro S a1 a2 hf
    rw [fX6_countWays_2] at hf
    refine GG.iload_n C dX6_countWays_2 2 rfl ?_
    refine GG.if_lt C (tgt := 101) dX6_countWays_3 (by decide) (fun c1 => ?_) (fun c1 => ?_)
    · have hf := if_t hf c1
      have hf := Option.some.inj hf
      subst hf
      exact GG.vret C E dX6_countWays_101
    · have hf := if_f hf c1
      refine GG.iload_n C dX6_countWays_6 2 rfl ?_
      refine GG.iload_n C dX6_countWays_7 1 rfl ?_
      refine GG.iconst C dX6_countWays_8 ic_m1 ?_
      refine GG.ixor C dX6_countWays_9 ?_
      refine GG.iand C dX6_countWays_10 ?_
      refine GG.if_eq C (tgt := 17) dX6_countWays_11 (by decide) (fun c2 => ?_) (fun c2 => ?_)
      · have hf := if_t hf c2
        refine GG.aload_n C dX6_countWays_17 0 rfl ?_
        refine GG.gm27 C rfl dX6_countWays_18 ?_
        refine GG.iload_n C dX6_countWays_21 2 rfl ?_
        refine GG.iload_n C dX6_countWays_22 2 rfl ?_
        refine GG.iload_n C dX6_countWays_23 1 rfl ?_
        refine GG.icmp_ne C (tgt := 31) dX6_countWays_24 (by decide) (fun c3 => ?_) (fun c3 => ?_)
        · have hf := if_f hf c3
          refine GG.lconst C dX6_countWays_31 lc_0 ?_
          obtain ⟨S4, hS4, hf⟩ := obd_some hf
          refine GG.mls C hS4 dX6_countWays_32 ?_
          refine GG.iconst C dX6_countWays_33 ic_0 ?_
          refine GG.istore_n C (lv' := [(3, .int (nI 0)), (0, .ref (kh K)), (1, .int a1), (2, .int a2)]) dX6_countWays_34 (by decide) rfl ?_
          refine GG.sub [1, 2, 3, 0] rfl ?_
          exact gX6_countWays_35 C E (hk2 := ih) FU _ _ _ _ hf
        · have hf := if_t hf c3
          refine GG.lconst C dX6_countWays_27 lc_1 ?_
          refine GG.goto C (tgt := 32) dX6_countWays_28 (by decide) ?_
          obtain ⟨S5, hS5, hf⟩ := obd_some hf
          refine GG.mls C hS5 dX6_countWays_32 ?_
          refine GG.iconst C dX6_countWays_33 ic_0 ?_
          refine GG.istore_n C (lv' := [(3, .int (nI 0)), (0, .ref (kh K)), (1, .int a1), (2, .int a2)]) dX6_countWays_34 (by decide) rfl ?_
          refine GG.sub [1, 2, 3, 0] rfl ?_
          exact gX6_countWays_35 C E (hk2 := ih) FU _ _ _ _ hf
      · have hf := if_f hf c2
        refine GG.goto C (tgt := 95) dX6_countWays_14 (by decide) ?_
        refine GG.iinc C (v := (a2 + (-1 : Int32))) (lv' := [(2, .int (a2 + (-1 : Int32))), (0, .ref (kh K)), (1, .int a1)]) dX6_countWays_95 2 rfl (congrArg (a2 + ·) ic_m1) (by decide) rfl ?_
        refine GG.goto C (tgt := 2) dX6_countWays_98 (by decide) ?_
        refine GG.sub [1, 2, 0] rfl ?_
        exact ih _ _ _ hf
theorem gX6_countWays {K : gK} {M : XS}  {S : MS} {a1 : Int32} {o : MS} (hf : fX6_countWays S a1 = some o) : gMet K yX6_countWays cX6_countWays 4 none rX6_countWays [(.ref (kh K)), (.int a1)] M (some S) none M (some o) := by
  refine gMet.of pn_X6 (Nat.le_of_ble_eq_true rfl) fun X C E => ?_
  unfold fX6_countWays at hf
  show GG K X 4 0 0 M (some S) 0 [(0, .ref (kh K)), (1, .int a1)] []
  refine GG.iload_n C dX6_countWays_0 1 rfl ?_
  refine GG.istore_n C (lv' := [(2, .int a1), (0, .ref (kh K)), (1, .int a1)]) dX6_countWays_1 (by decide) rfl ?_
  refine GG.sub [1, 2, 0] rfl ?_
  exact gX6_countWays_2 C E  FU _ _ _ hf
theorem gX6_orders {K : gK} {M : XS}  {S : MS} {a1 : Int32} {o : (Int64 × MS)} (hf : fX6_orders S a1 = some o) : gMet K yX6_orders cX6_orders 2 (some Jvm.ClassFile.FieldType.long) rX6_orders [(.ref (kh K)), (.int a1)] M (some S) (some (.long o.1)) M (some o.2) := by
  refine gMet.of pn_X6 (Nat.le_of_ble_eq_true rfl) fun X C E => ?_
  unfold fX6_orders at hf
  show GG K X 2 0 0 M (some S) 0 [(0, .ref (kh K)), (1, .int a1)] []
  refine GG.aload_n C dX6_orders_0 0 rfl ?_
  refine GG.iconst C dX6_orders_1 ic_0 ?_
  refine GG.pm1 C rfl dX6_orders_2 ?_
  refine GG.topS fun S1 hS1 => ?_
  have hf := ltb_s hS1 hf
  refine GG.aload_n C dX6_orders_5 0 rfl ?_
  refine GG.aload_n C dX6_orders_6 0 rfl ?_
  refine GG.iload_n C dX6_orders_7 1 rfl ?_
  obtain ⟨v2, hv2, hf⟩ := obd_some hf
  refine GG.c_X6_349 C rfl (gX6_whyNot hv2) ⟨Nat.le_of_ble_eq_true rfl, Nat.le_of_ble_eq_true rfl⟩ ⟨Nat.le_of_ble_eq_true rfl, Nat.le_of_ble_eq_true rfl⟩ (Nat.le_of_ble_eq_true rfl) dX6_orders_8 ?_
  refine GG.pm0 C rfl dX6_orders_11 ?_
  refine GG.topS fun S3 hS3 => ?_
  have hf := ltb_s hS3 hf
  refine GG.aload_n C dX6_orders_14 0 rfl ?_
  refine GG.gm0 C rfl dX6_orders_15 ?_
  refine GG.if_le C (tgt := 25) dX6_orders_18 (by decide) (fun c4 => ?_) (fun c4 => ?_)
  · have hf := if_t hf c4
    refine GG.aload_n C dX6_orders_25 0 rfl ?_
    refine GG.iload_n C dX6_orders_26 1 rfl ?_
    refine GG.iconst C dX6_orders_27 ic_m1 ?_
    refine GG.iconst C dX6_orders_28 ic_m1 ?_
    obtain ⟨p5, hp5, hf⟩ := obd_some hf
    refine GG.c_X6_377 C rfl (gX6_need hp5) ⟨Nat.le_of_ble_eq_true rfl, Nat.le_of_ble_eq_true rfl⟩ ⟨Nat.le_of_ble_eq_true rfl, Nat.le_of_ble_eq_true rfl⟩ (Nat.le_of_ble_eq_true rfl) dX6_orders_29 ?_
    refine GG.aload_n C dX6_orders_32 0 rfl ?_
    refine GG.iload_n C dX6_orders_33 1 rfl ?_
    obtain ⟨p6, hp6, hf⟩ := obd_some hf
    refine GG.c_X6_381 C rfl (gX6_countWays hp6) ⟨Nat.le_of_ble_eq_true rfl, Nat.le_of_ble_eq_true rfl⟩ ⟨Nat.le_of_ble_eq_true rfl, Nat.le_of_ble_eq_true rfl⟩ (Nat.le_of_ble_eq_true rfl) dX6_orders_34 ?_
    refine GG.aload_n C dX6_orders_37 0 rfl ?_
    refine GG.gm27 C rfl dX6_orders_38 ?_
    refine GG.iconst C dX6_orders_41 ic_0 ?_
    obtain ⟨v7, hv7, hf⟩ := obd_some hf
    refine GG.ml C hv7 dX6_orders_42 ?_
    have hf := Option.some.inj hf
    subst hf
    exact GG.lret C E dX6_orders_43
  · have hf := if_f hf c4
    refine GG.ldc2 C (v := (-1 : Int64)) q1638 dX6_orders_21 ?_
    have hf := Option.some.inj hf
    subst hf
    exact GG.lret C E dX6_orders_24
theorem gX6_fraction_9 {K : gK} {X : gX} {M : XS} (C : gC K X cX6_fraction 11 yX6_fraction (some Jvm.ClassFile.FieldType.boolean) rX6_fraction)  {o : (Int32 × MS)} (E : gE K X (some (.int o.1)) M (some o.2) rX6_fraction.cells rX6_fraction.slots)   :
    ∀ (n : Nat) (S : MS) (a1 : Int64) (a3 : Int64) (a5 : Int64) (a7 : Int64), fX6_fraction_9  n S a1 a3 a5 a7 = some o → GG K X 11 0 0 M (some S) 9 [(0, .ref (kh K)), (1, .long a1), (3, .long a3), (5, .long a5), (7, .long a7)] [] := by
  intro n
  induction n with
  | zero => intro S a1 a3 a5 a7 hf; cases hf
  | succ n ih =>
    intro S a1 a3 a5 a7 hf
    rw [fX6_fraction_9] at hf
    refine GG.lload C dX6_fraction_9 4 rfl ?_
    refine GG.lconst C dX6_fraction_11 lc_0 ?_
    refine GG.lcmp C dX6_fraction_12 ?_
    refine GG.if_eq C (tgt := 34) dX6_fraction_13 (by decide) (fun c2 => ?_) (fun c2 => ?_)
    · have hf := if_t hf c2
      refine GG.aload_n C dX6_fraction_34 0 rfl ?_
      refine GG.lload_n C dX6_fraction_35 1 rfl ?_
      refine GG.lload C dX6_fraction_36 3 rfl ?_
      obtain ⟨c3, hf⟩ := gd_some hf
      refine GG.ldiv C dX6_fraction_38 c3 ?_
      refine GG.pm2 C rfl dX6_fraction_39 ?_
      refine GG.topS fun S4 hS4 => ?_
      have hf := ltb_s hS4 hf
      refine GG.aload_n C dX6_fraction_42 0 rfl ?_
      refine GG.lload_n C dX6_fraction_43 2 rfl ?_
      refine GG.lload C dX6_fraction_44 3 rfl ?_
      obtain ⟨c5, hf⟩ := gd_some hf
      refine GG.ldiv C dX6_fraction_46 c5 ?_
      refine GG.pm3 C rfl dX6_fraction_47 ?_
      refine GG.topS fun S6 hS6 => ?_
      have hf := ltb_s hS6 hf
      refine GG.iconst C dX6_fraction_50 ic_1 ?_
      have hf := Option.some.inj hf
      subst hf
      exact GG.zret C zb_1 E dX6_fraction_51
    · have hf := if_f hf c2
      refine GG.lload C dX6_fraction_16 3 rfl ?_
      refine GG.lload C dX6_fraction_18 4 rfl ?_
      obtain ⟨c7, hf⟩ := gd_some hf
      refine GG.lrem C dX6_fraction_20 c7 ?_
      refine GG.topl fun x8 hx8 => ?_
      have hf := ltb_s hx8 hf
      refine GG.lstore C (lv' := [(9, .long x8), (0, .ref (kh K)), (1, .long a1), (3, .long a3), (5, .long a5), (7, .long a7)]) dX6_fraction_21 (by decide) rfl ?_
      refine GG.lload C dX6_fraction_23 5 rfl ?_
      refine GG.lstore C (lv' := [(5, .long a7), (9, .long x8), (0, .ref (kh K)), (1, .long a1), (3, .long a3), (7, .long a7)]) dX6_fraction_25 (by decide) rfl ?_
      refine GG.lload C dX6_fraction_27 1 rfl ?_
      refine GG.lstore C (lv' := [(7, .long x8), (5, .long a7), (9, .long x8), (0, .ref (kh K)), (1, .long a1), (3, .long a3)]) dX6_fraction_29 (by decide) rfl ?_
      refine GG.goto C (tgt := 9) dX6_fraction_31 (by decide) ?_
      refine GG.sub [3, 4, 5, 1, 0] rfl ?_
      exact ih _ _ _ _ _ hf
theorem gX6_fraction {K : gK} {M : XS}  {S : MS} {a1 : Int64} {a3 : Int64} {o : (Int32 × MS)} (hf : fX6_fraction S a1 a3 = some o) : gMet K yX6_fraction cX6_fraction 11 (some Jvm.ClassFile.FieldType.boolean) rX6_fraction [(.ref (kh K)), (.long a1), (.long a3)] M (some S) (some (.int o.1)) M (some o.2) := by
  refine gMet.of pn_X6 (Nat.le_of_ble_eq_true rfl) fun X C E => ?_
  unfold fX6_fraction at hf
  show GG K X 11 0 0 M (some S) 0 [(0, .ref (kh K)), (1, .long a1), (3, .long a3)] []
  refine GG.lload_n C dX6_fraction_0 1 rfl ?_
  refine GG.mabsl C q2033 (Nat.le_of_ble_eq_true rfl) (Nat.le_of_ble_eq_true rfl) (Nat.le_of_ble_eq_true rfl) (Nat.le_of_ble_eq_true rfl) dX6_fraction_1 ?_
  refine GG.topl fun x1 hx1 => ?_
  have hf := ltb_s hx1 hf
  refine GG.lstore C (lv' := [(5, .long x1), (0, .ref (kh K)), (1, .long a1), (3, .long a3)]) dX6_fraction_4 (by decide) rfl ?_
  refine GG.lload_n C dX6_fraction_6 3 rfl ?_
  refine GG.lstore C (lv' := [(7, .long a3), (5, .long x1), (0, .ref (kh K)), (1, .long a1), (3, .long a3)]) dX6_fraction_7 (by decide) rfl ?_
  refine GG.sub [2, 3, 4, 1, 0] rfl ?_
  exact gX6_fraction_9 C E  FU _ _ _ _ _ hf
theorem gX6_ahead {K : gK} {M : XS}  {S : MS} {a1 : Int32} {a2 : Int32} {a3 : Int32} {o : (Int32 × MS)} (hf : fX6_ahead S a1 a2 a3 = some o) : gMet K yX6_ahead cX6_ahead 6 (some Jvm.ClassFile.FieldType.boolean) rX6_ahead [(.ref (kh K)), (.int a1), (.int a2), (.int a3)] M (some S) (some (.int o.1)) M (some o.2) := by
  refine gMet.of pn_X6 (Nat.le_of_ble_eq_true rfl) fun X C E => ?_
  unfold fX6_ahead at hf
  show GG K X 6 0 0 M (some S) 0 [(0, .ref (kh K)), (1, .int a1), (2, .int a2), (3, .int a3)] []
  refine GG.aload_n C dX6_ahead_0 0 rfl ?_
  refine GG.iconst C dX6_ahead_1 ic_0 ?_
  refine GG.pm1 C rfl dX6_ahead_2 ?_
  refine GG.topS fun S1 hS1 => ?_
  have hf := ltb_s hS1 hf
  refine GG.aload_n C dX6_ahead_5 0 rfl ?_
  refine GG.iconst C dX6_ahead_6 ic_0 ?_
  refine GG.pm0 C rfl dX6_ahead_7 ?_
  refine GG.topS fun S2 hS2 => ?_
  have hf := ltb_s hS2 hf
  refine GG.aload_n C dX6_ahead_10 0 rfl ?_
  refine GG.iload_n C dX6_ahead_11 1 rfl ?_
  obtain ⟨v3, hv3, hf⟩ := obd_some hf
  refine GG.c_X6_319 C rfl (gX6_isSet hv3) ⟨Nat.le_of_ble_eq_true rfl, Nat.le_of_ble_eq_true rfl⟩ ⟨Nat.le_of_ble_eq_true rfl, Nat.le_of_ble_eq_true rfl⟩ (Nat.le_of_ble_eq_true rfl) dX6_ahead_12 ?_
  refine GG.if_eq C (tgt := 55) dX6_ahead_15 (by decide) (fun c4 => ?_) (fun c4 => ?_)
  · have hf := if_t hf c4
    refine GG.aload_n C dX6_ahead_55 0 rfl ?_
    refine GG.iconst C dX6_ahead_56 ic_2 ?_
    obtain ⟨p5, hp5, hf⟩ := obd_some hf
    refine GG.c_X6_90 C rfl (gX6_no hp5) ⟨Nat.le_of_ble_eq_true rfl, Nat.le_of_ble_eq_true rfl⟩ ⟨Nat.le_of_ble_eq_true rfl, Nat.le_of_ble_eq_true rfl⟩ (Nat.le_of_ble_eq_true rfl) dX6_ahead_57 ?_
    obtain ⟨c6, hf⟩ := gd_some hf
    have hf := Option.some.inj hf
    subst hf
    exact GG.zret C c6 E dX6_ahead_60
  · have hf := if_f hf c4
    refine GG.aload_n C dX6_ahead_18 0 rfl ?_
    refine GG.iload_n C dX6_ahead_19 2 rfl ?_
    obtain ⟨v7, hv7, hf⟩ := obd_some hf
    refine GG.c_X6_311 C rfl (gX6_isChange hv7) ⟨Nat.le_of_ble_eq_true rfl, Nat.le_of_ble_eq_true rfl⟩ ⟨Nat.le_of_ble_eq_true rfl, Nat.le_of_ble_eq_true rfl⟩ (Nat.le_of_ble_eq_true rfl) dX6_ahead_20 ?_
    refine GG.if_eq C (tgt := 55) dX6_ahead_23 (by decide) (fun c8 => ?_) (fun c8 => ?_)
    · have hf := if_t hf c8
      refine GG.aload_n C dX6_ahead_55 0 rfl ?_
      refine GG.iconst C dX6_ahead_56 ic_2 ?_
      obtain ⟨p9, hp9, hf⟩ := obd_some hf
      refine GG.c_X6_90 C rfl (gX6_no hp9) ⟨Nat.le_of_ble_eq_true rfl, Nat.le_of_ble_eq_true rfl⟩ ⟨Nat.le_of_ble_eq_true rfl, Nat.le_of_ble_eq_true rfl⟩ (Nat.le_of_ble_eq_true rfl) dX6_ahead_57 ?_
      obtain ⟨c10, hf⟩ := gd_some hf
      have hf := Option.some.inj hf
      subst hf
      exact GG.zret C c10 E dX6_ahead_60
    · have hf := if_f hf c8
      refine GG.aload_n C dX6_ahead_26 0 rfl ?_
      refine GG.iload_n C dX6_ahead_27 3 rfl ?_
      obtain ⟨v11, hv11, hf⟩ := obd_some hf
      refine GG.c_X6_311 C rfl (gX6_isChange hv11) ⟨Nat.le_of_ble_eq_true rfl, Nat.le_of_ble_eq_true rfl⟩ ⟨Nat.le_of_ble_eq_true rfl, Nat.le_of_ble_eq_true rfl⟩ (Nat.le_of_ble_eq_true rfl) dX6_ahead_28 ?_
      refine GG.if_eq C (tgt := 55) dX6_ahead_31 (by decide) (fun c12 => ?_) (fun c12 => ?_)
      · have hf := if_t hf c12
        refine GG.aload_n C dX6_ahead_55 0 rfl ?_
        refine GG.iconst C dX6_ahead_56 ic_2 ?_
        obtain ⟨p13, hp13, hf⟩ := obd_some hf
        refine GG.c_X6_90 C rfl (gX6_no hp13) ⟨Nat.le_of_ble_eq_true rfl, Nat.le_of_ble_eq_true rfl⟩ ⟨Nat.le_of_ble_eq_true rfl, Nat.le_of_ble_eq_true rfl⟩ (Nat.le_of_ble_eq_true rfl) dX6_ahead_57 ?_
        obtain ⟨c14, hf⟩ := gd_some hf
        have hf := Option.some.inj hf
        subst hf
        exact GG.zret C c14 E dX6_ahead_60
      · have hf := if_f hf c12
        refine GG.iload_n C dX6_ahead_34 2 rfl ?_
        refine GG.iload_n C dX6_ahead_35 3 rfl ?_
        refine GG.icmp_eq C (tgt := 55) dX6_ahead_36 (by decide) (fun c15 => ?_) (fun c15 => ?_)
        · have hf := if_t hf c15
          refine GG.aload_n C dX6_ahead_55 0 rfl ?_
          refine GG.iconst C dX6_ahead_56 ic_2 ?_
          obtain ⟨p16, hp16, hf⟩ := obd_some hf
          refine GG.c_X6_90 C rfl (gX6_no hp16) ⟨Nat.le_of_ble_eq_true rfl, Nat.le_of_ble_eq_true rfl⟩ ⟨Nat.le_of_ble_eq_true rfl, Nat.le_of_ble_eq_true rfl⟩ (Nat.le_of_ble_eq_true rfl) dX6_ahead_57 ?_
          obtain ⟨c17, hf⟩ := gd_some hf
          have hf := Option.some.inj hf
          subst hf
          exact GG.zret C c17 E dX6_ahead_60
        · have hf := if_f hf c15
          refine GG.iload_n C dX6_ahead_39 1 rfl ?_
          refine GG.iload_n C dX6_ahead_40 2 rfl ?_
          obtain ⟨v18, hv18, hf⟩ := obd_some hf
          refine GG.c_X6_302 C rfl (gX6_hasIn hv18) ⟨Nat.le_of_ble_eq_true rfl, Nat.le_of_ble_eq_true rfl⟩ ⟨Nat.le_of_ble_eq_true rfl, Nat.le_of_ble_eq_true rfl⟩ (Nat.le_of_ble_eq_true rfl) dX6_ahead_41 ?_
          refine GG.if_eq C (tgt := 55) dX6_ahead_44 (by decide) (fun c19 => ?_) (fun c19 => ?_)
          · have hf := if_t hf c19
            refine GG.aload_n C dX6_ahead_55 0 rfl ?_
            refine GG.iconst C dX6_ahead_56 ic_2 ?_
            obtain ⟨p20, hp20, hf⟩ := obd_some hf
            refine GG.c_X6_90 C rfl (gX6_no hp20) ⟨Nat.le_of_ble_eq_true rfl, Nat.le_of_ble_eq_true rfl⟩ ⟨Nat.le_of_ble_eq_true rfl, Nat.le_of_ble_eq_true rfl⟩ (Nat.le_of_ble_eq_true rfl) dX6_ahead_57 ?_
            obtain ⟨c21, hf⟩ := gd_some hf
            have hf := Option.some.inj hf
            subst hf
            exact GG.zret C c21 E dX6_ahead_60
          · have hf := if_f hf c19
            refine GG.iload_n C dX6_ahead_47 1 rfl ?_
            refine GG.iload_n C dX6_ahead_48 3 rfl ?_
            obtain ⟨v22, hv22, hf⟩ := obd_some hf
            refine GG.c_X6_302 C rfl (gX6_hasIn hv22) ⟨Nat.le_of_ble_eq_true rfl, Nat.le_of_ble_eq_true rfl⟩ ⟨Nat.le_of_ble_eq_true rfl, Nat.le_of_ble_eq_true rfl⟩ (Nat.le_of_ble_eq_true rfl) dX6_ahead_49 ?_
            refine GG.if_ne C (tgt := 61) dX6_ahead_52 (by decide) (fun c23 => ?_) (fun c23 => ?_)
            · have hf := if_f hf c23
              refine GG.aload_n C dX6_ahead_61 0 rfl ?_
              refine GG.iload_n C dX6_ahead_62 1 rfl ?_
              obtain ⟨v24, hv24, hf⟩ := obd_some hf
              refine GG.c_X6_322 C rfl (gX6_lackOf hv24) ⟨Nat.le_of_ble_eq_true rfl, Nat.le_of_ble_eq_true rfl⟩ ⟨Nat.le_of_ble_eq_true rfl, Nat.le_of_ble_eq_true rfl⟩ (Nat.le_of_ble_eq_true rfl) dX6_ahead_63 ?_
              refine GG.if_eq C (tgt := 76) dX6_ahead_66 (by decide) (fun c25 => ?_) (fun c25 => ?_)
              · have hf := if_t hf c25
                refine GG.aload_n C dX6_ahead_76 0 rfl ?_
                refine GG.iload_n C dX6_ahead_77 1 rfl ?_
                refine GG.iconst C dX6_ahead_78 ic_m1 ?_
                refine GG.iconst C dX6_ahead_79 ic_m1 ?_
                obtain ⟨p26, hp26, hf⟩ := obd_some hf
                refine GG.c_X6_377 C rfl (gX6_need hp26) ⟨Nat.le_of_ble_eq_true rfl, Nat.le_of_ble_eq_true rfl⟩ ⟨Nat.le_of_ble_eq_true rfl, Nat.le_of_ble_eq_true rfl⟩ (Nat.le_of_ble_eq_true rfl) dX6_ahead_80 ?_
                refine GG.aload_n C dX6_ahead_83 0 rfl ?_
                refine GG.iload_n C dX6_ahead_84 1 rfl ?_
                obtain ⟨p27, hp27, hf⟩ := obd_some hf
                refine GG.c_X6_381 C rfl (gX6_countWays hp27) ⟨Nat.le_of_ble_eq_true rfl, Nat.le_of_ble_eq_true rfl⟩ ⟨Nat.le_of_ble_eq_true rfl, Nat.le_of_ble_eq_true rfl⟩ (Nat.le_of_ble_eq_true rfl) dX6_ahead_85 ?_
                refine GG.aload_n C dX6_ahead_88 0 rfl ?_
                refine GG.gm27 C rfl dX6_ahead_89 ?_
                refine GG.iconst C dX6_ahead_92 ic_0 ?_
                obtain ⟨v28, hv28, hf⟩ := obd_some hf
                refine GG.ml C hv28 dX6_ahead_93 ?_
                refine GG.lstore C (lv' := [(4, .long v28), (0, .ref (kh K)), (1, .int a1), (2, .int a2), (3, .int a3)]) dX6_ahead_94 (by decide) rfl ?_
                refine GG.aload_n C dX6_ahead_96 1 rfl ?_
                refine GG.iload_n C dX6_ahead_97 2 rfl ?_
                refine GG.iload_n C dX6_ahead_98 3 rfl ?_
                refine GG.iload_n C dX6_ahead_99 4 rfl ?_
                obtain ⟨p29, hp29, hf⟩ := obd_some hf
                refine GG.c_X6_377 C rfl (gX6_need hp29) ⟨Nat.le_of_ble_eq_true rfl, Nat.le_of_ble_eq_true rfl⟩ ⟨Nat.le_of_ble_eq_true rfl, Nat.le_of_ble_eq_true rfl⟩ (Nat.le_of_ble_eq_true rfl) dX6_ahead_100 ?_
                refine GG.aload_n C dX6_ahead_103 1 rfl ?_
                refine GG.iload_n C dX6_ahead_104 2 rfl ?_
                obtain ⟨p30, hp30, hf⟩ := obd_some hf
                refine GG.c_X6_381 C rfl (gX6_countWays hp30) ⟨Nat.le_of_ble_eq_true rfl, Nat.le_of_ble_eq_true rfl⟩ ⟨Nat.le_of_ble_eq_true rfl, Nat.le_of_ble_eq_true rfl⟩ (Nat.le_of_ble_eq_true rfl) dX6_ahead_105 ?_
                refine GG.aload_n C dX6_ahead_108 1 rfl ?_
                refine GG.aload_n C dX6_ahead_109 1 rfl ?_
                refine GG.gm27 C rfl dX6_ahead_110 ?_
                refine GG.iconst C dX6_ahead_113 ic_0 ?_
                obtain ⟨v31, hv31, hf⟩ := obd_some hf
                refine GG.ml C hv31 dX6_ahead_114 ?_
                refine GG.lload C dX6_ahead_115 0 rfl ?_
                obtain ⟨p32, hp32, hf⟩ := obd_some hf
                refine GG.c_X6_384 C rfl (gX6_fraction hp32) ⟨Nat.le_of_ble_eq_true rfl, Nat.le_of_ble_eq_true rfl⟩ ⟨Nat.le_of_ble_eq_true rfl, Nat.le_of_ble_eq_true rfl⟩ (Nat.le_of_ble_eq_true rfl) dX6_ahead_117 ?_
                obtain ⟨c33, hf⟩ := gd_some hf
                have hf := Option.some.inj hf
                subst hf
                exact GG.zret C c33 E dX6_ahead_120
              · have hf := if_f hf c25
                refine GG.aload_n C dX6_ahead_69 0 rfl ?_
                refine GG.bipush C dX6_ahead_70 bp_9 ?_
                obtain ⟨p34, hp34, hf⟩ := obd_some hf
                refine GG.c_X6_90 C rfl (gX6_no hp34) ⟨Nat.le_of_ble_eq_true rfl, Nat.le_of_ble_eq_true rfl⟩ ⟨Nat.le_of_ble_eq_true rfl, Nat.le_of_ble_eq_true rfl⟩ (Nat.le_of_ble_eq_true rfl) dX6_ahead_72 ?_
                obtain ⟨c35, hf⟩ := gd_some hf
                have hf := Option.some.inj hf
                subst hf
                exact GG.zret C c35 E dX6_ahead_75
            · have hf := if_t hf c23
              refine GG.aload_n C dX6_ahead_55 0 rfl ?_
              refine GG.iconst C dX6_ahead_56 ic_2 ?_
              obtain ⟨p36, hp36, hf⟩ := obd_some hf
              refine GG.c_X6_90 C rfl (gX6_no hp36) ⟨Nat.le_of_ble_eq_true rfl, Nat.le_of_ble_eq_true rfl⟩ ⟨Nat.le_of_ble_eq_true rfl, Nat.le_of_ble_eq_true rfl⟩ (Nat.le_of_ble_eq_true rfl) dX6_ahead_57 ?_
              obtain ⟨c37, hf⟩ := gd_some hf
              have hf := Option.some.inj hf
              subst hf
              exact GG.zret C c37 E dX6_ahead_60
theorem gX6_ordered_148 {K : gK} {X : gX} {M : XS} (C : gC K X cX6_ordered 11 yX6_ordered (some Jvm.ClassFile.FieldType.int) rX6_ordered)  {o : (Int32 × MS)} (E : gE K X (some (.int o.1)) M (some o.2) rX6_ordered.cells rX6_ordered.slots) {k66 : MS → Int32 → Int64 → Int32 → Int32 → Option (Int32 × MS)} {k78 : MS → Int32 → Int64 → Int32 → Int32 → Int32 → Int32 → Option (Int32 × MS)} (hk66 : ∀ (S : MS) (a1 : Int32) (a4 : Int64) (a6 : Int32) (a7 : Int32), k66 S a1 a4 a6 a7 = some o → GG K X 11 0 0 M (some S) 66 [(0, .ref (kh K)), (1, .int a1), (4, .long a4), (6, .int a6), (7, .int a7)] []) (hk78 : ∀ (S : MS) (a1 : Int32) (a4 : Int64) (a6 : Int32) (a7 : Int32) (a8 : Int32) (a9 : Int32), k78 S a1 a4 a6 a7 a8 a9 = some o → GG K X 11 0 0 M (some S) 78 [(0, .ref (kh K)), (1, .int a1), (4, .long a4), (6, .int a6), (7, .int a7), (8, .int a8), (9, .int a9)] []) :
    ∀ (S : MS) (a1 : Int32) (a4 : Int64) (a6 : Int32) (a7 : Int32) (a8 : Int32) (a9 : Int32) (a10 : Int32), fX6_ordered_148 k66 k78 S a1 a4 a6 a7 a8 a9 a10 = some o → GG K X 11 0 0 M (some S) 148 [(0, .ref (kh K)), (1, .int a1), (4, .long a4), (6, .int a6), (7, .int a7), (8, .int a8), (9, .int a9), (10, .int a10)] [] := by
  intro S a1 a4 a6 a7 a8 a9 a10 hf
  unfold fX6_ordered_148 at hf
  refine GG.lload C dX6_ordered_148 2 rfl ?_
  refine GG.iload C dX6_ordered_150 7 rfl ?_
  refine GG.if_eq C (tgt := 170) dX6_ordered_152 (by decide) (fun c23 => ?_) (fun c23 => ?_)
  · have hf := if_t hf c23
    refine GG.lconst C dX6_ordered_170 lc_0 ?_
    refine GG.lsub C dX6_ordered_171 ?_
    refine GG.topl fun x24 hx24 => ?_
    have hf := ltb_s hx24 hf
    refine GG.lstore C (lv' := [(4, .long x24), (0, .ref (kh K)), (1, .int a1), (6, .int a6), (7, .int a7), (8, .int a8), (9, .int a9), (10, .int a10)]) dX6_ordered_172 (by decide) rfl ?_
    refine GG.iinc C (v := (a8 + (nI 1))) (lv' := [(8, .int (a8 + (nI 1))), (4, .long x24), (0, .ref (kh K)), (1, .int a1), (6, .int a6), (7, .int a7), (9, .int a9), (10, .int a10)]) dX6_ordered_174 5 rfl (congrArg (a8 + ·) ic_1) (by decide) rfl ?_
    refine GG.goto C (tgt := 78) dX6_ordered_177 (by decide) ?_
    refine GG.sub [2, 3, 1, 4, 5, 0, 6] rfl ?_
    exact hk78 _ _ _ _ _ _ _ hf
  · have hf := if_f hf c23
    refine GG.aload_n C dX6_ordered_155 0 rfl ?_
    refine GG.gm27 C rfl dX6_ordered_156 ?_
    refine GG.iload C dX6_ordered_159 3 rfl ?_
    refine GG.iconst C dX6_ordered_161 ic_1 ?_
    refine GG.iload C dX6_ordered_162 5 rfl ?_
    refine GG.ishl C dX6_ordered_164 ?_
    refine GG.ior C dX6_ordered_165 ?_
    obtain ⟨v25, hv25, hf⟩ := obd_some hf
    refine GG.ml C hv25 dX6_ordered_166 ?_
    refine GG.goto C (tgt := 171) dX6_ordered_167 (by decide) ?_
    refine GG.lsub C dX6_ordered_171 ?_
    refine GG.topl fun x26 hx26 => ?_
    have hf := ltb_s hx26 hf
    refine GG.lstore C (lv' := [(4, .long x26), (0, .ref (kh K)), (1, .int a1), (6, .int a6), (7, .int a7), (8, .int a8), (9, .int a9), (10, .int a10)]) dX6_ordered_172 (by decide) rfl ?_
    refine GG.iinc C (v := (a8 + (nI 1))) (lv' := [(8, .int (a8 + (nI 1))), (4, .long x26), (0, .ref (kh K)), (1, .int a1), (6, .int a6), (7, .int a7), (9, .int a9), (10, .int a10)]) dX6_ordered_174 5 rfl (congrArg (a8 + ·) ic_1) (by decide) rfl ?_
    refine GG.goto C (tgt := 78) dX6_ordered_177 (by decide) ?_
    refine GG.sub [2, 3, 1, 4, 5, 0, 6] rfl ?_
    exact hk78 _ _ _ _ _ _ _ hf
theorem gX6_ordered_117 {K : gK} {X : gX} {M : XS} (C : gC K X cX6_ordered 11 yX6_ordered (some Jvm.ClassFile.FieldType.int) rX6_ordered)  {o : (Int32 × MS)} (E : gE K X (some (.int o.1)) M (some o.2) rX6_ordered.cells rX6_ordered.slots) {k66 : MS → Int32 → Int64 → Int32 → Int32 → Option (Int32 × MS)} {k78 : MS → Int32 → Int64 → Int32 → Int32 → Int32 → Int32 → Option (Int32 × MS)} (hk66 : ∀ (S : MS) (a1 : Int32) (a4 : Int64) (a6 : Int32) (a7 : Int32), k66 S a1 a4 a6 a7 = some o → GG K X 11 0 0 M (some S) 66 [(0, .ref (kh K)), (1, .int a1), (4, .long a4), (6, .int a6), (7, .int a7)] []) (hk78 : ∀ (S : MS) (a1 : Int32) (a4 : Int64) (a6 : Int32) (a7 : Int32) (a8 : Int32) (a9 : Int32), k78 S a1 a4 a6 a7 a8 a9 = some o → GG K X 11 0 0 M (some S) 78 [(0, .ref (kh K)), (1, .int a1), (4, .long a4), (6, .int a6), (7, .int a7), (8, .int a8), (9, .int a9)] []) :
    ∀ (S : MS) (a1 : Int32) (a4 : Int64) (a6 : Int32) (a7 : Int32) (a8 : Int32) (a9 : Int32) (s0 : Int32), fX6_ordered_117 k66 k78 S a1 a4 a6 a7 a8 a9 s0 = some o → GG K X 11 0 0 M (some S) 117 [(0, .ref (kh K)), (1, .int a1), (4, .long a4), (6, .int a6), (7, .int a7), (8, .int a8), (9, .int a9)] [.int s0] := by
  intro S a1 a4 a6 a7 a8 a9 s0 hf
  unfold fX6_ordered_117 at hf
  refine GG.istore C (lv' := [(10, .int s0), (0, .ref (kh K)), (1, .int a1), (4, .long a4), (6, .int a6), (7, .int a7), (8, .int a8), (9, .int a9)]) dX6_ordered_117 (by decide) rfl ?_
  refine GG.iload C dX6_ordered_119 0 rfl ?_
  refine GG.if_eq C (tgt := 148) dX6_ordered_121 (by decide) (fun c20 => ?_) (fun c20 => ?_)
  · have hf := if_t hf c20
    refine GG.sub [1, 2, 3, 4, 5, 6, 7, 0] rfl ?_
    exact gX6_ordered_148 C E (hk66 := hk66) (hk78 := hk78) _ _ _ _ _ _ _ _ hf
  · have hf := if_f hf c20
    refine GG.lload C dX6_ordered_124 3 rfl ?_
    refine GG.aload_n C dX6_ordered_126 1 rfl ?_
    refine GG.gm27 C rfl dX6_ordered_127 ?_
    refine GG.iload C dX6_ordered_130 4 rfl ?_
    refine GG.iconst C dX6_ordered_132 ic_1 ?_
    refine GG.iload C dX6_ordered_133 6 rfl ?_
    refine GG.ishl C dX6_ordered_135 ?_
    refine GG.ior C dX6_ordered_136 ?_
    obtain ⟨v21, hv21, hf⟩ := obd_some hf
    refine GG.ml C hv21 dX6_ordered_137 ?_
    refine GG.lcmp C dX6_ordered_138 ?_
    refine GG.if_ge C (tgt := 148) dX6_ordered_139 (by decide) (fun c22 => ?_) (fun c22 => ?_)
    · have hf := if_t hf c22
      refine GG.sub [1, 2, 3, 4, 5, 6, 7, 0] rfl ?_
      exact gX6_ordered_148 C E (hk66 := hk66) (hk78 := hk78) _ _ _ _ _ _ _ _ hf
    · have hf := if_f hf c22
      refine GG.iconst C dX6_ordered_142 ic_1 ?_
      refine GG.istore C (lv' := [(9, .int (nI 1)), (10, .int s0), (0, .ref (kh K)), (1, .int a1), (4, .long a4), (6, .int a6), (7, .int a7), (8, .int a8)]) dX6_ordered_143 (by decide) rfl ?_
      refine GG.goto C (tgt := 177) dX6_ordered_145 (by decide) ?_
      refine GG.goto C (tgt := 78) dX6_ordered_177 (by decide) ?_
      refine GG.sub [2, 3, 4, 5, 6, 7, 0] rfl ?_
      exact hk78 _ _ _ _ _ _ _ hf
theorem gX6_ordered_78 {K : gK} {X : gX} {M : XS} (C : gC K X cX6_ordered 11 yX6_ordered (some Jvm.ClassFile.FieldType.int) rX6_ordered)  {o : (Int32 × MS)} (E : gE K X (some (.int o.1)) M (some o.2) rX6_ordered.cells rX6_ordered.slots) {k66 : MS → Int32 → Int64 → Int32 → Int32 → Option (Int32 × MS)} (hk66 : ∀ (S : MS) (a1 : Int32) (a4 : Int64) (a6 : Int32) (a7 : Int32), k66 S a1 a4 a6 a7 = some o → GG K X 11 0 0 M (some S) 66 [(0, .ref (kh K)), (1, .int a1), (4, .long a4), (6, .int a6), (7, .int a7)] []) :
    ∀ (n : Nat) (S : MS) (a1 : Int32) (a4 : Int64) (a6 : Int32) (a7 : Int32) (a8 : Int32) (a9 : Int32), fX6_ordered_78 k66 n S a1 a4 a6 a7 a8 a9 = some o → GG K X 11 0 0 M (some S) 78 [(0, .ref (kh K)), (1, .int a1), (4, .long a4), (6, .int a6), (7, .int a7), (8, .int a8), (9, .int a9)] [] := by
  intro n
  induction n with
  | zero => intro S a1 a4 a6 a7 a8 a9 hf; cases hf
  | succ n ih =>
    intro S a1 a4 a6 a7 a8 a9 hf
    rw [fX6_ordered_78] at hf
    refine GG.iload C dX6_ordered_78 6 rfl ?_
    refine GG.if_ne C (tgt := 180) dX6_ordered_80 (by decide) (fun c13 => ?_) (fun c13 => ?_)
    · have hf := if_f hf c13
      refine GG.aload_n C dX6_ordered_180 0 rfl ?_
      refine GG.gm20 C rfl dX6_ordered_181 ?_
      refine GG.bipush C dX6_ordered_184 bp_119 ?_
      refine GG.iload C dX6_ordered_186 4 rfl ?_
      refine GG.iadd C dX6_ordered_188 ?_
      refine GG.iload C dX6_ordered_189 5 rfl ?_
      obtain ⟨S14, hS14, hf⟩ := obd_some hf
      refine GG.mis C rfl hS14 dX6_ordered_191 ?_
      refine GG.iinc C (v := (a7 + (nI 1))) (lv' := [(7, .int (a7 + (nI 1))), (0, .ref (kh K)), (1, .int a1), (4, .long a4), (6, .int a6), (8, .int a8), (9, .int a9)]) dX6_ordered_192 4 rfl (congrArg (a7 + ·) ic_1) (by decide) rfl ?_
      refine GG.iload C dX6_ordered_195 4 rfl ?_
      refine GG.iconst C dX6_ordered_197 ic_1 ?_
      refine GG.iload C dX6_ordered_198 5 rfl ?_
      refine GG.ishl C dX6_ordered_200 ?_
      refine GG.ior C dX6_ordered_201 ?_
      refine GG.topi fun x15 hx15 => ?_
      have hf := ltb_s hx15 hf
      refine GG.istore C (lv' := [(6, .int x15), (7, .int (a7 + (nI 1))), (0, .ref (kh K)), (1, .int a1), (4, .long a4), (8, .int a8), (9, .int a9)]) dX6_ordered_202 (by decide) rfl ?_
      refine GG.goto C (tgt := 66) dX6_ordered_204 (by decide) ?_
      refine GG.sub [2, 3, 4, 0, 1] rfl ?_
      exact hk66 _ _ _ _ _ hf
    · have hf := if_t hf c13
      refine GG.iload_n C dX6_ordered_83 1 rfl ?_
      refine GG.iload C dX6_ordered_84 3 rfl ?_
      refine GG.iconst C dX6_ordered_86 ic_m1 ?_
      refine GG.ixor C dX6_ordered_87 ?_
      refine GG.iand C dX6_ordered_88 ?_
      refine GG.iload C dX6_ordered_89 5 rfl ?_
      obtain ⟨v16, hv16, hf⟩ := obd_some hf
      refine GG.c_X6_302 C rfl (gX6_hasIn hv16) ⟨Nat.le_of_ble_eq_true rfl, Nat.le_of_ble_eq_true rfl⟩ ⟨Nat.le_of_ble_eq_true rfl, Nat.le_of_ble_eq_true rfl⟩ (Nat.le_of_ble_eq_true rfl) dX6_ordered_91 ?_
      refine GG.if_eq C (tgt := 116) dX6_ordered_94 (by decide) (fun c17 => ?_) (fun c17 => ?_)
      · have hf := if_t hf c17
        refine GG.iconst C dX6_ordered_116 ic_0 ?_
        refine GG.sub [0, 1, 2, 3, 4, 5, 6] rfl ?_
        exact gX6_ordered_117 C E (hk66 := hk66) (hk78 := ih) _ _ _ _ _ _ _ _ hf
      · have hf := if_f hf c17
        refine GG.aload_n C dX6_ordered_97 0 rfl ?_
        refine GG.gm28 C rfl dX6_ordered_98 ?_
        refine GG.iload C dX6_ordered_101 5 rfl ?_
        obtain ⟨v18, hv18, hf⟩ := obd_some hf
        refine GG.mi C rfl hv18 dX6_ordered_103 ?_
        refine GG.iload C dX6_ordered_104 3 rfl ?_
        refine GG.iconst C dX6_ordered_106 ic_m1 ?_
        refine GG.ixor C dX6_ordered_107 ?_
        refine GG.iand C dX6_ordered_108 ?_
        refine GG.if_ne C (tgt := 116) dX6_ordered_109 (by decide) (fun c19 => ?_) (fun c19 => ?_)
        · have hf := if_f hf c19
          refine GG.iconst C dX6_ordered_116 ic_0 ?_
          refine GG.sub [0, 1, 2, 3, 4, 5, 6] rfl ?_
          exact gX6_ordered_117 C E (hk66 := hk66) (hk78 := ih) _ _ _ _ _ _ _ _ hf
        · have hf := if_t hf c19
          refine GG.iconst C dX6_ordered_112 ic_1 ?_
          refine GG.goto C (tgt := 117) dX6_ordered_113 (by decide) ?_
          refine GG.sub [0, 1, 2, 3, 4, 5, 6] rfl ?_
          exact gX6_ordered_117 C E (hk66 := hk66) (hk78 := ih) _ _ _ _ _ _ _ _ hf
theorem gX6_ordered_66 {K : gK} {X : gX} {M : XS} (C : gC K X cX6_ordered 11 yX6_ordered (some Jvm.ClassFile.FieldType.int) rX6_ordered)  {o : (Int32 × MS)} (E : gE K X (some (.int o.1)) M (some o.2) rX6_ordered.cells rX6_ordered.slots)   :
    ∀ (n : Nat) (S : MS) (a1 : Int32) (a4 : Int64) (a6 : Int32) (a7 : Int32), fX6_ordered_66  n S a1 a4 a6 a7 = some o → GG K X 11 0 0 M (some S) 66 [(0, .ref (kh K)), (1, .int a1), (4, .long a4), (6, .int a6), (7, .int a7)] [] := by
  intro n
  induction n with
  | zero => intro S a1 a4 a6 a7 hf; cases hf
  | succ n ih =>
    intro S a1 a4 a6 a7 hf
    rw [fX6_ordered_66] at hf
    refine GG.iload C dX6_ordered_66 3 rfl ?_
    refine GG.iload_n C dX6_ordered_68 1 rfl ?_
    refine GG.icmp_eq C (tgt := 207) dX6_ordered_69 (by decide) (fun c11 => ?_) (fun c11 => ?_)
    · have hf := if_t hf c11
      refine GG.aload_n C dX6_ordered_207 0 rfl ?_
      refine GG.gm20 C rfl dX6_ordered_208 ?_
      refine GG.bipush C dX6_ordered_211 bp_118 ?_
      refine GG.iload C dX6_ordered_213 4 rfl ?_
      obtain ⟨S12, hS12, hf⟩ := obd_some hf
      refine GG.mis C rfl hS12 dX6_ordered_215 ?_
      refine GG.iload C dX6_ordered_216 4 rfl ?_
      have hf := Option.some.inj hf
      subst hf
      exact GG.iret C E dX6_ordered_218
    · have hf := if_f hf c11
      refine GG.iconst C dX6_ordered_72 ic_0 ?_
      refine GG.istore C (lv' := [(8, .int (nI 0)), (0, .ref (kh K)), (1, .int a1), (4, .long a4), (6, .int a6), (7, .int a7)]) dX6_ordered_73 (by decide) rfl ?_
      refine GG.iconst C dX6_ordered_75 ic_0 ?_
      refine GG.istore C (lv' := [(9, .int (nI 0)), (8, .int (nI 0)), (0, .ref (kh K)), (1, .int a1), (4, .long a4), (6, .int a6), (7, .int a7)]) dX6_ordered_76 (by decide) rfl ?_
      refine GG.sub [2, 3, 4, 5, 6, 1, 0] rfl ?_
      exact gX6_ordered_78 C E (hk66 := ih) FU _ _ _ _ _ _ _ hf
theorem gX6_ordered {K : gK} {M : XS}  {S : MS} {a1 : Int32} {a2 : Int64} {o : (Int32 × MS)} (hf : fX6_ordered S a1 a2 = some o) : gMet K yX6_ordered cX6_ordered 11 (some Jvm.ClassFile.FieldType.int) rX6_ordered [(.ref (kh K)), (.int a1), (.long a2)] M (some S) (some (.int o.1)) M (some o.2) := by
  refine gMet.of pn_X6 (Nat.le_of_ble_eq_true rfl) fun X C E => ?_
  unfold fX6_ordered at hf
  show GG K X 11 0 0 M (some S) 0 [(0, .ref (kh K)), (1, .int a1), (2, .long a2)] []
  refine GG.aload_n C dX6_ordered_0 0 rfl ?_
  refine GG.iconst C dX6_ordered_1 ic_0 ?_
  refine GG.pm1 C rfl dX6_ordered_2 ?_
  refine GG.topS fun S1 hS1 => ?_
  have hf := ltb_s hS1 hf
  refine GG.aload_n C dX6_ordered_5 0 rfl ?_
  refine GG.aload_n C dX6_ordered_6 0 rfl ?_
  refine GG.iload_n C dX6_ordered_7 1 rfl ?_
  obtain ⟨v2, hv2, hf⟩ := obd_some hf
  refine GG.c_X6_349 C rfl (gX6_whyNot hv2) ⟨Nat.le_of_ble_eq_true rfl, Nat.le_of_ble_eq_true rfl⟩ ⟨Nat.le_of_ble_eq_true rfl, Nat.le_of_ble_eq_true rfl⟩ (Nat.le_of_ble_eq_true rfl) dX6_ordered_8 ?_
  refine GG.pm0 C rfl dX6_ordered_11 ?_
  refine GG.topS fun S3 hS3 => ?_
  have hf := ltb_s hS3 hf
  refine GG.aload_n C dX6_ordered_14 0 rfl ?_
  refine GG.gm0 C rfl dX6_ordered_15 ?_
  refine GG.if_le C (tgt := 23) dX6_ordered_18 (by decide) (fun c4 => ?_) (fun c4 => ?_)
  · have hf := if_t hf c4
    refine GG.aload_n C dX6_ordered_23 0 rfl ?_
    refine GG.iload_n C dX6_ordered_24 1 rfl ?_
    refine GG.iconst C dX6_ordered_25 ic_m1 ?_
    refine GG.iconst C dX6_ordered_26 ic_m1 ?_
    obtain ⟨p5, hp5, hf⟩ := obd_some hf
    refine GG.c_X6_377 C rfl (gX6_need hp5) ⟨Nat.le_of_ble_eq_true rfl, Nat.le_of_ble_eq_true rfl⟩ ⟨Nat.le_of_ble_eq_true rfl, Nat.le_of_ble_eq_true rfl⟩ (Nat.le_of_ble_eq_true rfl) dX6_ordered_27 ?_
    refine GG.aload_n C dX6_ordered_30 0 rfl ?_
    refine GG.iload_n C dX6_ordered_31 1 rfl ?_
    obtain ⟨p6, hp6, hf⟩ := obd_some hf
    refine GG.c_X6_381 C rfl (gX6_countWays hp6) ⟨Nat.le_of_ble_eq_true rfl, Nat.le_of_ble_eq_true rfl⟩ ⟨Nat.le_of_ble_eq_true rfl, Nat.le_of_ble_eq_true rfl⟩ (Nat.le_of_ble_eq_true rfl) dX6_ordered_32 ?_
    refine GG.lload_n C dX6_ordered_35 2 rfl ?_
    refine GG.lconst C dX6_ordered_36 lc_0 ?_
    refine GG.aload_n C dX6_ordered_37 0 rfl ?_
    refine GG.gm27 C rfl dX6_ordered_38 ?_
    refine GG.iconst C dX6_ordered_41 ic_0 ?_
    obtain ⟨v7, hv7, hf⟩ := obd_some hf
    refine GG.ml C hv7 dX6_ordered_42 ?_
    refine GG.lconst C dX6_ordered_43 lc_1 ?_
    refine GG.lsub C dX6_ordered_44 ?_
    obtain ⟨v8, hv8, hf⟩ := obd_some hf
    refine GG.c_X6_110 C rfl (gX6_isIn hv8) ⟨Nat.le_of_ble_eq_true rfl, Nat.le_of_ble_eq_true rfl⟩ ⟨Nat.le_of_ble_eq_true rfl, Nat.le_of_ble_eq_true rfl⟩ (Nat.le_of_ble_eq_true rfl) dX6_ordered_45 ?_
    refine GG.if_ne C (tgt := 57) dX6_ordered_48 (by decide) (fun c9 => ?_) (fun c9 => ?_)
    · have hf := if_f hf c9
      refine GG.lload_n C dX6_ordered_57 2 rfl ?_
      refine GG.lstore C (lv' := [(4, .long a2), (0, .ref (kh K)), (1, .int a1), (2, .long a2)]) dX6_ordered_58 (by decide) rfl ?_
      refine GG.iconst C dX6_ordered_60 ic_0 ?_
      refine GG.istore C (lv' := [(6, .int (nI 0)), (4, .long a2), (0, .ref (kh K)), (1, .int a1), (2, .long a2)]) dX6_ordered_61 (by decide) rfl ?_
      refine GG.iconst C dX6_ordered_63 ic_0 ?_
      refine GG.istore C (lv' := [(7, .int (nI 0)), (6, .int (nI 0)), (4, .long a2), (0, .ref (kh K)), (1, .int a1), (2, .long a2)]) dX6_ordered_64 (by decide) rfl ?_
      refine GG.sub [3, 4, 2, 1, 0] rfl ?_
      exact gX6_ordered_66 C E  FU _ _ _ _ _ hf
    · have hf := if_t hf c9
      refine GG.aload_n C dX6_ordered_51 0 rfl ?_
      refine GG.iconst C dX6_ordered_52 ic_5 ?_
      obtain ⟨p10, hp10, hf⟩ := obd_some hf
      refine GG.c_X6_299 C rfl (gX6_refuse hp10) ⟨Nat.le_of_ble_eq_true rfl, Nat.le_of_ble_eq_true rfl⟩ ⟨Nat.le_of_ble_eq_true rfl, Nat.le_of_ble_eq_true rfl⟩ (Nat.le_of_ble_eq_true rfl) dX6_ordered_53 ?_
      have hf := Option.some.inj hf
      subst hf
      exact GG.iret C E dX6_ordered_56
  · have hf := if_f hf c4
    refine GG.iconst C dX6_ordered_21 ic_m1 ?_
    have hf := Option.some.inj hf
    subst hf
    exact GG.iret C E dX6_ordered_22
theorem gX6_isTray {K : gK} {M : XS} {S : Option MS}  {a1 : Int32} {o : Int32} (hf : fX6_isTray a1 = some o) : gMet K yX6_isTray cX6_isTray 2 (some Jvm.ClassFile.FieldType.boolean) rX6_isTray [(.ref (kh K)), (.int a1)] M S (some (.int o)) M S := by
  refine gMet.of pn_X6 (Nat.le_of_ble_eq_true rfl) fun X C E => ?_
  unfold fX6_isTray at hf
  show GG K X 2 0 0 M S 0 [(0, .ref (kh K)), (1, .int a1)] []
  refine GG.iload_n C dX6_isTray_0 1 rfl ?_
  refine GG.i2l C dX6_isTray_1 ?_
  refine GG.lconst C dX6_isTray_2 lc_0 ?_
  refine GG.ldc2 C (v := (lN 3)) q1848 dX6_isTray_3 ?_
  obtain ⟨v1, hv1, hf⟩ := obd_some hf
  refine GG.c_X6_110 C rfl (gX6_isIn hv1) ⟨Nat.le_of_ble_eq_true rfl, Nat.le_of_ble_eq_true rfl⟩ ⟨Nat.le_of_ble_eq_true rfl, Nat.le_of_ble_eq_true rfl⟩ (Nat.le_of_ble_eq_true rfl) dX6_isTray_6 ?_
  obtain ⟨c2, hf⟩ := gd_some hf
  have hf := Option.some.inj hf
  subst hf
  exact GG.zret C c2 E dX6_isTray_9
theorem gX6_numberOf {K : gK} {M : XS}  {S : MS} {a1 : Int32} {a2 : Int32} {o : Int64} (hf : fX6_numberOf S a1 a2 = some o) : gMet K yX6_numberOf cX6_numberOf 3 (some Jvm.ClassFile.FieldType.long) rX6_numberOf [(.ref (kh K)), (.int a1), (.int a2)] M (some S) (some (.long o)) M (some S) := by
  refine gMet.of pn_X6 (Nat.le_of_ble_eq_true rfl) fun X C E => ?_
  unfold fX6_numberOf at hf
  show GG K X 3 0 0 M (some S) 0 [(0, .ref (kh K)), (1, .int a1), (2, .int a2)] []
  refine GG.aload_n C dX6_numberOf_0 0 rfl ?_
  refine GG.gm6 C rfl dX6_numberOf_1 ?_
  refine GG.bipush C dX6_numberOf_4 bp_60 ?_
  refine GG.iload_n C dX6_numberOf_6 1 rfl ?_
  refine GG.imul C dX6_numberOf_7 ?_
  refine GG.iload_n C dX6_numberOf_8 2 rfl ?_
  refine GG.iadd C dX6_numberOf_9 ?_
  obtain ⟨v1, hv1, hf⟩ := obd_some hf
  refine GG.ml C hv1 dX6_numberOf_10 ?_
  have hf := Option.some.inj hf
  subst hf
  exact GG.lret C E dX6_numberOf_11
theorem gX6_order_209 {K : gK} {X : gX} {M : XS} (C : gC K X cX6_order 7 yX6_order (some Jvm.ClassFile.FieldType.boolean) rX6_order)  {o : (Int32 × MS)} (E : gE K X (some (.int o.1)) M (some o.2) rX6_order.cells rX6_order.slots)   :
    ∀ (n : Nat) (S : MS) (a1 : Int32) (a2 : Int32) (a5 : Int32), fX6_order_209  n S a1 a2 a5 = some o → GG K X 7 0 0 M (some S) 209 [(0, .ref (kh K)), (1, .int a1), (2, .int a2), (5, .int a5)] [] := by
  intro n
  induction n with
  | zero => intro S a1 a2 a5 hf; cases hf
  | succ n ih =>
    intro S a1 a2 a5 hf
    rw [fX6_order_209] at hf
    refine GG.iload C dX6_order_209 3 rfl ?_
    refine GG.iload_n C dX6_order_211 2 rfl ?_
    refine GG.icmp_ge C (tgt := 239) dX6_order_212 (by decide) (fun c41 => ?_) (fun c41 => ?_)
    · have hf := if_t hf c41
      refine GG.aload_n C dX6_order_239 0 rfl ?_
      refine GG.gm20 C rfl dX6_order_240 ?_
      refine GG.bipush C dX6_order_243 bp_118 ?_
      refine GG.iload_n C dX6_order_245 2 rfl ?_
      obtain ⟨S42, hS42, hf⟩ := obd_some hf
      refine GG.mis C rfl hS42 dX6_order_246 ?_
      refine GG.iconst C dX6_order_247 ic_1 ?_
      have hf := Option.some.inj hf
      subst hf
      exact GG.zret C zb_1 E dX6_order_248
    · have hf := if_f hf c41
      refine GG.aload_n C dX6_order_215 0 rfl ?_
      refine GG.gm20 C rfl dX6_order_216 ?_
      refine GG.bipush C dX6_order_219 bp_119 ?_
      refine GG.iload C dX6_order_221 3 rfl ?_
      refine GG.iadd C dX6_order_223 ?_
      refine GG.aload_n C dX6_order_224 0 rfl ?_
      refine GG.iload_n C dX6_order_225 1 rfl ?_
      refine GG.iload C dX6_order_226 3 rfl ?_
      obtain ⟨v43, hv43, hf⟩ := obd_some hf
      refine GG.c_X6_393 C rfl (gX6_numberOf hv43) ⟨Nat.le_of_ble_eq_true rfl, Nat.le_of_ble_eq_true rfl⟩ ⟨Nat.le_of_ble_eq_true rfl, Nat.le_of_ble_eq_true rfl⟩ (Nat.le_of_ble_eq_true rfl) dX6_order_228 ?_
      refine GG.l2i C dX6_order_231 ?_
      obtain ⟨S44, hS44, hf⟩ := obd_some hf
      refine GG.mis C rfl hS44 dX6_order_232 ?_
      refine GG.iinc C (v := (a5 + (nI 1))) (lv' := [(5, .int (a5 + (nI 1))), (0, .ref (kh K)), (1, .int a1), (2, .int a2)]) dX6_order_233 3 rfl (congrArg (a5 + ·) ic_1) (by decide) rfl ?_
      refine GG.goto C (tgt := 209) dX6_order_236 (by decide) ?_
      refine GG.sub [1, 2, 3, 0] rfl ?_
      exact ih _ _ _ _ hf
theorem gX6_order_153 {K : gK} {X : gX} {M : XS} (C : gC K X cX6_order 7 yX6_order (some Jvm.ClassFile.FieldType.boolean) rX6_order)  {o : (Int32 × MS)} (E : gE K X (some (.int o.1)) M (some o.2) rX6_order.cells rX6_order.slots)   :
    ∀ (n : Nat) (S : MS) (a1 : Int32) (a2 : Int32) (a4 : Int32) (a5 : Int32), fX6_order_153  n S a1 a2 a4 a5 = some o → GG K X 7 0 0 M (some S) 153 [(0, .ref (kh K)), (1, .int a1), (2, .int a2), (4, .int a4), (5, .int a5)] [] := by
  intro n
  induction n with
  | zero => intro S a1 a2 a4 a5 hf; cases hf
  | succ n ih =>
    intro S a1 a2 a4 a5 hf
    rw [fX6_order_153] at hf
    refine GG.iload C dX6_order_153 4 rfl ?_
    refine GG.iload_n C dX6_order_155 2 rfl ?_
    refine GG.icmp_ge C (tgt := 206) dX6_order_156 (by decide) (fun c33 => ?_) (fun c33 => ?_)
    · have hf := if_t hf c33
      refine GG.iconst C dX6_order_206 ic_0 ?_
      refine GG.istore C (lv' := [(5, .int (nI 0)), (0, .ref (kh K)), (1, .int a1), (2, .int a2), (4, .int a4)]) dX6_order_207 (by decide) rfl ?_
      refine GG.sub [1, 2, 3, 0] rfl ?_
      exact gX6_order_209 C E  FU _ _ _ _ hf
    · have hf := if_f hf c33
      refine GG.aload_n C dX6_order_159 0 rfl ?_
      refine GG.iload_n C dX6_order_160 1 rfl ?_
      refine GG.iload C dX6_order_161 4 rfl ?_
      obtain ⟨v34, hv34, hf⟩ := obd_some hf
      refine GG.c_X6_393 C rfl (gX6_numberOf hv34) ⟨Nat.le_of_ble_eq_true rfl, Nat.le_of_ble_eq_true rfl⟩ ⟨Nat.le_of_ble_eq_true rfl, Nat.le_of_ble_eq_true rfl⟩ (Nat.le_of_ble_eq_true rfl) dX6_order_163 ?_
      refine GG.l2i C dX6_order_166 ?_
      refine GG.topi fun x35 hx35 => ?_
      have hf := ltb_s hx35 hf
      refine GG.istore C (lv' := [(6, .int x35), (0, .ref (kh K)), (1, .int a1), (2, .int a2), (4, .int a4), (5, .int a5)]) dX6_order_167 (by decide) rfl ?_
      refine GG.aload_n C dX6_order_169 1 rfl ?_
      refine GG.iconst C dX6_order_170 ic_0 ?_
      refine GG.iload C dX6_order_171 0 rfl ?_
      obtain ⟨v36, hv36, hf⟩ := obd_some hf
      refine GG.c_X6_249 C rfl (gX6_hangsOn hv36) ⟨Nat.le_of_ble_eq_true rfl, Nat.le_of_ble_eq_true rfl⟩ ⟨Nat.le_of_ble_eq_true rfl, Nat.le_of_ble_eq_true rfl⟩ (Nat.le_of_ble_eq_true rfl) dX6_order_173 ?_
      refine GG.iload C dX6_order_176 4 rfl ?_
      refine GG.iconst C dX6_order_178 ic_m1 ?_
      refine GG.ixor C dX6_order_179 ?_
      refine GG.iand C dX6_order_180 ?_
      refine GG.if_eq C (tgt := 191) dX6_order_181 (by decide) (fun c37 => ?_) (fun c37 => ?_)
      · have hf := if_t hf c37
        refine GG.iload C dX6_order_191 4 rfl ?_
        refine GG.iconst C dX6_order_193 ic_1 ?_
        refine GG.iload C dX6_order_194 0 rfl ?_
        refine GG.ishl C dX6_order_196 ?_
        refine GG.ior C dX6_order_197 ?_
        refine GG.topi fun x38 hx38 => ?_
        have hf := ltb_s hx38 hf
        refine GG.istore C (lv' := [(4, .int x38), (6, .int x35), (0, .ref (kh K)), (1, .int a1), (2, .int a2), (5, .int a5)]) dX6_order_198 (by decide) rfl ?_
        refine GG.iinc C (v := (a5 + (nI 1))) (lv' := [(5, .int (a5 + (nI 1))), (4, .int x38), (6, .int x35), (0, .ref (kh K)), (1, .int a1), (2, .int a2)]) dX6_order_200 5 rfl (congrArg (a5 + ·) ic_1) (by decide) rfl ?_
        refine GG.goto C (tgt := 153) dX6_order_203 (by decide) ?_
        refine GG.sub [3, 4, 5, 1, 0] rfl ?_
        exact ih _ _ _ _ _ hf
      · have hf := if_f hf c37
        refine GG.aload_n C dX6_order_184 1 rfl ?_
        refine GG.bipush C dX6_order_185 bp_9 ?_
        obtain ⟨p39, hp39, hf⟩ := obd_some hf
        refine GG.c_X6_90 C rfl (gX6_no hp39) ⟨Nat.le_of_ble_eq_true rfl, Nat.le_of_ble_eq_true rfl⟩ ⟨Nat.le_of_ble_eq_true rfl, Nat.le_of_ble_eq_true rfl⟩ (Nat.le_of_ble_eq_true rfl) dX6_order_187 ?_
        obtain ⟨c40, hf⟩ := gd_some hf
        have hf := Option.some.inj hf
        subst hf
        exact GG.zret C c40 E dX6_order_190
theorem gX6_order_78 {K : gK} {X : gX} {M : XS} (C : gC K X cX6_order 7 yX6_order (some Jvm.ClassFile.FieldType.boolean) rX6_order)  {o : (Int32 × MS)} (E : gE K X (some (.int o.1)) M (some o.2) rX6_order.cells rX6_order.slots)   :
    ∀ (n : Nat) (S : MS) (a1 : Int32) (a2 : Int32) (a3 : Int32) (a4 : Int32), fX6_order_78  n S a1 a2 a3 a4 = some o → GG K X 7 0 0 M (some S) 78 [(0, .ref (kh K)), (1, .int a1), (2, .int a2), (3, .int a3), (4, .int a4)] [] := by
  intro n
  induction n with
  | zero => intro S a1 a2 a3 a4 hf; cases hf
  | succ n ih =>
    intro S a1 a2 a3 a4 hf
    rw [fX6_order_78] at hf
    refine GG.iload C dX6_order_78 4 rfl ?_
    refine GG.iload_n C dX6_order_80 2 rfl ?_
    refine GG.icmp_ge C (tgt := 147) dX6_order_81 (by decide) (fun c19 => ?_) (fun c19 => ?_)
    · have hf := if_t hf c19
      refine GG.iconst C dX6_order_147 ic_0 ?_
      refine GG.istore C (lv' := [(4, .int (nI 0)), (0, .ref (kh K)), (1, .int a1), (2, .int a2), (3, .int a3)]) dX6_order_148 (by decide) rfl ?_
      refine GG.iconst C dX6_order_150 ic_0 ?_
      refine GG.istore C (lv' := [(5, .int (nI 0)), (4, .int (nI 0)), (0, .ref (kh K)), (1, .int a1), (2, .int a2), (3, .int a3)]) dX6_order_151 (by decide) rfl ?_
      refine GG.sub [2, 3, 4, 1, 0] rfl ?_
      exact gX6_order_153 C E  FU _ _ _ _ _ hf
    · have hf := if_f hf c19
      refine GG.aload_n C dX6_order_84 0 rfl ?_
      refine GG.iload_n C dX6_order_85 1 rfl ?_
      refine GG.iload C dX6_order_86 4 rfl ?_
      obtain ⟨v20, hv20, hf⟩ := obd_some hf
      refine GG.c_X6_393 C rfl (gX6_numberOf hv20) ⟨Nat.le_of_ble_eq_true rfl, Nat.le_of_ble_eq_true rfl⟩ ⟨Nat.le_of_ble_eq_true rfl, Nat.le_of_ble_eq_true rfl⟩ (Nat.le_of_ble_eq_true rfl) dX6_order_88 ?_
      refine GG.lconst C dX6_order_91 lc_0 ?_
      refine GG.aload_n C dX6_order_92 0 rfl ?_
      refine GG.gm20 C rfl dX6_order_93 ?_
      refine GG.iconst C dX6_order_96 ic_0 ?_
      obtain ⟨v21, hv21, hf⟩ := obd_some hf
      refine GG.mi C rfl hv21 dX6_order_97 ?_
      refine GG.iconst C dX6_order_98 ic_1 ?_
      refine GG.isub C dX6_order_99 ?_
      refine GG.i2l C dX6_order_100 ?_
      obtain ⟨v22, hv22, hf⟩ := obd_some hf
      refine GG.c_X6_110 C rfl (gX6_isIn hv22) ⟨Nat.le_of_ble_eq_true rfl, Nat.le_of_ble_eq_true rfl⟩ ⟨Nat.le_of_ble_eq_true rfl, Nat.le_of_ble_eq_true rfl⟩ (Nat.le_of_ble_eq_true rfl) dX6_order_101 ?_
      refine GG.if_eq C (tgt := 122) dX6_order_104 (by decide) (fun c23 => ?_) (fun c23 => ?_)
      · have hf := if_t hf c23
        refine GG.aload_n C dX6_order_122 0 rfl ?_
        refine GG.iconst C dX6_order_123 ic_5 ?_
        obtain ⟨p24, hp24, hf⟩ := obd_some hf
        refine GG.c_X6_90 C rfl (gX6_no hp24) ⟨Nat.le_of_ble_eq_true rfl, Nat.le_of_ble_eq_true rfl⟩ ⟨Nat.le_of_ble_eq_true rfl, Nat.le_of_ble_eq_true rfl⟩ (Nat.le_of_ble_eq_true rfl) dX6_order_124 ?_
        obtain ⟨c25, hf⟩ := gd_some hf
        have hf := Option.some.inj hf
        subst hf
        exact GG.zret C c25 E dX6_order_127
      · have hf := if_f hf c23
        refine GG.iload_n C dX6_order_107 3 rfl ?_
        refine GG.aload_n C dX6_order_108 0 rfl ?_
        refine GG.iload_n C dX6_order_109 1 rfl ?_
        refine GG.iload C dX6_order_110 4 rfl ?_
        obtain ⟨v26, hv26, hf⟩ := obd_some hf
        refine GG.c_X6_393 C rfl (gX6_numberOf hv26) ⟨Nat.le_of_ble_eq_true rfl, Nat.le_of_ble_eq_true rfl⟩ ⟨Nat.le_of_ble_eq_true rfl, Nat.le_of_ble_eq_true rfl⟩ (Nat.le_of_ble_eq_true rfl) dX6_order_112 ?_
        refine GG.l2i C dX6_order_115 ?_
        obtain ⟨v27, hv27, hf⟩ := obd_some hf
        refine GG.c_X6_302 C rfl (gX6_hasIn hv27) ⟨Nat.le_of_ble_eq_true rfl, Nat.le_of_ble_eq_true rfl⟩ ⟨Nat.le_of_ble_eq_true rfl, Nat.le_of_ble_eq_true rfl⟩ (Nat.le_of_ble_eq_true rfl) dX6_order_116 ?_
        refine GG.if_eq C (tgt := 128) dX6_order_119 (by decide) (fun c28 => ?_) (fun c28 => ?_)
        · have hf := if_t hf c28
          refine GG.iload_n C dX6_order_128 3 rfl ?_
          refine GG.iconst C dX6_order_129 ic_1 ?_
          refine GG.aload_n C dX6_order_130 0 rfl ?_
          refine GG.iload_n C dX6_order_131 1 rfl ?_
          refine GG.iload C dX6_order_132 4 rfl ?_
          obtain ⟨v29, hv29, hf⟩ := obd_some hf
          refine GG.c_X6_393 C rfl (gX6_numberOf hv29) ⟨Nat.le_of_ble_eq_true rfl, Nat.le_of_ble_eq_true rfl⟩ ⟨Nat.le_of_ble_eq_true rfl, Nat.le_of_ble_eq_true rfl⟩ (Nat.le_of_ble_eq_true rfl) dX6_order_134 ?_
          refine GG.l2i C dX6_order_137 ?_
          refine GG.ishl C dX6_order_138 ?_
          refine GG.ior C dX6_order_139 ?_
          refine GG.topi fun x30 hx30 => ?_
          have hf := ltb_s hx30 hf
          refine GG.istore_n C (lv' := [(3, .int x30), (0, .ref (kh K)), (1, .int a1), (2, .int a2), (4, .int a4)]) dX6_order_140 (by decide) rfl ?_
          refine GG.iinc C (v := (a4 + (nI 1))) (lv' := [(4, .int (a4 + (nI 1))), (3, .int x30), (0, .ref (kh K)), (1, .int a1), (2, .int a2)]) dX6_order_141 4 rfl (congrArg (a4 + ·) ic_1) (by decide) rfl ?_
          refine GG.goto C (tgt := 78) dX6_order_144 (by decide) ?_
          refine GG.sub [2, 3, 4, 1, 0] rfl ?_
          exact ih _ _ _ _ _ hf
        · have hf := if_f hf c28
          refine GG.aload_n C dX6_order_122 0 rfl ?_
          refine GG.iconst C dX6_order_123 ic_5 ?_
          obtain ⟨p31, hp31, hf⟩ := obd_some hf
          refine GG.c_X6_90 C rfl (gX6_no hp31) ⟨Nat.le_of_ble_eq_true rfl, Nat.le_of_ble_eq_true rfl⟩ ⟨Nat.le_of_ble_eq_true rfl, Nat.le_of_ble_eq_true rfl⟩ (Nat.le_of_ble_eq_true rfl) dX6_order_124 ?_
          obtain ⟨c32, hf⟩ := gd_some hf
          have hf := Option.some.inj hf
          subst hf
          exact GG.zret C c32 E dX6_order_127
theorem gX6_order {K : gK} {M : XS}  {S : MS} {a1 : Int32} {a2 : Int32} {o : (Int32 × MS)} (hf : fX6_order S a1 a2 = some o) : gMet K yX6_order cX6_order 7 (some Jvm.ClassFile.FieldType.boolean) rX6_order [(.ref (kh K)), (.int a1), (.int a2)] M (some S) (some (.int o.1)) M (some o.2) := by
  refine gMet.of pn_X6 (Nat.le_of_ble_eq_true rfl) fun X C E => ?_
  unfold fX6_order at hf
  show GG K X 7 0 0 M (some S) 0 [(0, .ref (kh K)), (1, .int a1), (2, .int a2)] []
  refine GG.aload_n C dX6_order_0 0 rfl ?_
  refine GG.iconst C dX6_order_1 ic_0 ?_
  refine GG.pm1 C rfl dX6_order_2 ?_
  refine GG.topS fun S1 hS1 => ?_
  have hf := ltb_s hS1 hf
  refine GG.aload_n C dX6_order_5 0 rfl ?_
  refine GG.iconst C dX6_order_6 ic_0 ?_
  refine GG.pm0 C rfl dX6_order_7 ?_
  refine GG.topS fun S2 hS2 => ?_
  have hf := ltb_s hS2 hf
  refine GG.aload_n C dX6_order_10 0 rfl ?_
  refine GG.iload_n C dX6_order_11 1 rfl ?_
  obtain ⟨v3, hv3, hf⟩ := obd_some hf
  refine GG.c_X6_388 C rfl (gX6_isTray hv3) ⟨Nat.le_of_ble_eq_true rfl, Nat.le_of_ble_eq_true rfl⟩ ⟨Nat.le_of_ble_eq_true rfl, Nat.le_of_ble_eq_true rfl⟩ (Nat.le_of_ble_eq_true rfl) dX6_order_12 ?_
  refine GG.if_ne C (tgt := 24) dX6_order_15 (by decide) (fun c4 => ?_) (fun c4 => ?_)
  · have hf := if_f hf c4
    refine GG.aload_n C dX6_order_24 0 rfl ?_
    refine GG.gm5 C rfl dX6_order_25 ?_
    refine GG.iload_n C dX6_order_28 1 rfl ?_
    obtain ⟨v5, hv5, hf⟩ := obd_some hf
    refine GG.mi C rfl hv5 dX6_order_29 ?_
    refine GG.if_ge C (tgt := 39) dX6_order_30 (by decide) (fun c6 => ?_) (fun c6 => ?_)
    · have hf := if_t hf c6
      refine GG.iload_n C dX6_order_39 2 rfl ?_
      refine GG.i2l C dX6_order_40 ?_
      refine GG.lconst C dX6_order_41 lc_0 ?_
      refine GG.ldc2 C (v := (lN 16)) q2048 dX6_order_42 ?_
      obtain ⟨v7, hv7, hf⟩ := obd_some hf
      refine GG.c_X6_110 C rfl (gX6_isIn hv7) ⟨Nat.le_of_ble_eq_true rfl, Nat.le_of_ble_eq_true rfl⟩ ⟨Nat.le_of_ble_eq_true rfl, Nat.le_of_ble_eq_true rfl⟩ (Nat.le_of_ble_eq_true rfl) dX6_order_45 ?_
      refine GG.if_ne C (tgt := 57) dX6_order_48 (by decide) (fun c8 => ?_) (fun c8 => ?_)
      · have hf := if_f hf c8
        refine GG.aload_n C dX6_order_57 0 rfl ?_
        refine GG.gm5 C rfl dX6_order_58 ?_
        refine GG.iload_n C dX6_order_61 1 rfl ?_
        obtain ⟨v9, hv9, hf⟩ := obd_some hf
        refine GG.mi C rfl hv9 dX6_order_62 ?_
        refine GG.iload_n C dX6_order_63 2 rfl ?_
        refine GG.icmp_ge C (tgt := 73) dX6_order_64 (by decide) (fun c10 => ?_) (fun c10 => ?_)
        · have hf := if_t hf c10
          refine GG.iconst C dX6_order_73 ic_0 ?_
          refine GG.istore_n C (lv' := [(3, .int (nI 0)), (0, .ref (kh K)), (1, .int a1), (2, .int a2)]) dX6_order_74 (by decide) rfl ?_
          refine GG.iconst C dX6_order_75 ic_0 ?_
          refine GG.istore C (lv' := [(4, .int (nI 0)), (3, .int (nI 0)), (0, .ref (kh K)), (1, .int a1), (2, .int a2)]) dX6_order_76 (by decide) rfl ?_
          refine GG.sub [2, 3, 4, 1, 0] rfl ?_
          exact gX6_order_78 C E  FU _ _ _ _ _ hf
        · have hf := if_f hf c10
          refine GG.aload_n C dX6_order_67 0 rfl ?_
          refine GG.iconst C dX6_order_68 ic_4 ?_
          obtain ⟨p11, hp11, hf⟩ := obd_some hf
          refine GG.c_X6_90 C rfl (gX6_no hp11) ⟨Nat.le_of_ble_eq_true rfl, Nat.le_of_ble_eq_true rfl⟩ ⟨Nat.le_of_ble_eq_true rfl, Nat.le_of_ble_eq_true rfl⟩ (Nat.le_of_ble_eq_true rfl) dX6_order_69 ?_
          obtain ⟨c12, hf⟩ := gd_some hf
          have hf := Option.some.inj hf
          subst hf
          exact GG.zret C c12 E dX6_order_72
      · have hf := if_t hf c8
        refine GG.aload_n C dX6_order_51 0 rfl ?_
        refine GG.iconst C dX6_order_52 ic_5 ?_
        obtain ⟨p13, hp13, hf⟩ := obd_some hf
        refine GG.c_X6_90 C rfl (gX6_no hp13) ⟨Nat.le_of_ble_eq_true rfl, Nat.le_of_ble_eq_true rfl⟩ ⟨Nat.le_of_ble_eq_true rfl, Nat.le_of_ble_eq_true rfl⟩ (Nat.le_of_ble_eq_true rfl) dX6_order_53 ?_
        obtain ⟨c14, hf⟩ := gd_some hf
        have hf := Option.some.inj hf
        subst hf
        exact GG.zret C c14 E dX6_order_56
    · have hf := if_f hf c6
      refine GG.aload_n C dX6_order_33 0 rfl ?_
      refine GG.iconst C dX6_order_34 ic_3 ?_
      obtain ⟨p15, hp15, hf⟩ := obd_some hf
      refine GG.c_X6_90 C rfl (gX6_no hp15) ⟨Nat.le_of_ble_eq_true rfl, Nat.le_of_ble_eq_true rfl⟩ ⟨Nat.le_of_ble_eq_true rfl, Nat.le_of_ble_eq_true rfl⟩ (Nat.le_of_ble_eq_true rfl) dX6_order_35 ?_
      obtain ⟨c16, hf⟩ := gd_some hf
      have hf := Option.some.inj hf
      subst hf
      exact GG.zret C c16 E dX6_order_38
  · have hf := if_t hf c4
    refine GG.aload_n C dX6_order_18 0 rfl ?_
    refine GG.iconst C dX6_order_19 ic_1 ?_
    obtain ⟨p17, hp17, hf⟩ := obd_some hf
    refine GG.c_X6_90 C rfl (gX6_no hp17) ⟨Nat.le_of_ble_eq_true rfl, Nat.le_of_ble_eq_true rfl⟩ ⟨Nat.le_of_ble_eq_true rfl, Nat.le_of_ble_eq_true rfl⟩ (Nat.le_of_ble_eq_true rfl) dX6_order_20 ?_
    obtain ⟨c18, hf⟩ := gd_some hf
    have hf := Option.some.inj hf
    subst hf
    exact GG.zret C c18 E dX6_order_23
theorem gX6_orderSet_4 {K : gK} {X : gX} {M : XS} {S : MS} (C : gC K X cX6_orderSet 3 yX6_orderSet (some Jvm.ClassFile.FieldType.int) rX6_orderSet)  {o : Int32} (E : gE K X (some (.int o)) M (some S) rX6_orderSet.cells rX6_orderSet.slots)   :
    ∀ (n : Nat) (a1 : Int32) (a2 : Int32), fX6_orderSet_4 S n a1 a2 = some o → GG K X 3 0 0 M (some S) 4 [(0, .ref (kh K)), (1, .int a1), (2, .int a2)] [] := by
  intro n
  induction n with
  | zero => intro a1 a2 hf; cases hf
  | succ n ih =>
    intro a1 a2 hf
    rw [fX6_orderSet_4] at hf
    refine GG.iload_n C dX6_orderSet_4 2 rfl ?_
    refine GG.aload_n C dX6_orderSet_5 0 rfl ?_
    refine GG.gm20 C rfl dX6_orderSet_6 ?_
    refine GG.bipush C dX6_orderSet_9 bp_118 ?_
    obtain ⟨v1, hv1, hf⟩ := obd_some hf
    refine GG.mi C rfl hv1 dX6_orderSet_11 ?_
    refine GG.icmp_ge C (tgt := 35) dX6_orderSet_12 (by decide) (fun c2 => ?_) (fun c2 => ?_)
    · have hf := if_t hf c2
      refine GG.iload_n C dX6_orderSet_35 1 rfl ?_
      have hf := Option.some.inj hf
      subst hf
      exact GG.iret C E dX6_orderSet_36
    · have hf := if_f hf c2
      refine GG.iload_n C dX6_orderSet_15 1 rfl ?_
      refine GG.iconst C dX6_orderSet_16 ic_1 ?_
      refine GG.aload_n C dX6_orderSet_17 0 rfl ?_
      refine GG.gm20 C rfl dX6_orderSet_18 ?_
      refine GG.bipush C dX6_orderSet_21 bp_119 ?_
      refine GG.iload_n C dX6_orderSet_23 2 rfl ?_
      refine GG.iadd C dX6_orderSet_24 ?_
      obtain ⟨v3, hv3, hf⟩ := obd_some hf
      refine GG.mi C rfl hv3 dX6_orderSet_25 ?_
      refine GG.ishl C dX6_orderSet_26 ?_
      refine GG.ior C dX6_orderSet_27 ?_
      refine GG.topi fun x4 hx4 => ?_
      have hf := ltb_s hx4 hf
      refine GG.istore_n C (lv' := [(1, .int x4), (0, .ref (kh K)), (2, .int a2)]) dX6_orderSet_28 (by decide) rfl ?_
      refine GG.iinc C (v := (a2 + (nI 1))) (lv' := [(2, .int (a2 + (nI 1))), (1, .int x4), (0, .ref (kh K))]) dX6_orderSet_29 2 rfl (congrArg (a2 + ·) ic_1) (by decide) rfl ?_
      refine GG.goto C (tgt := 4) dX6_orderSet_32 (by decide) ?_
      refine GG.sub [2, 1, 0] rfl ?_
      exact ih _ _ hf
theorem gX6_orderSet {K : gK} {M : XS}  {S : MS} {o : Int32} (hf : fX6_orderSet S = some o) : gMet K yX6_orderSet cX6_orderSet 3 (some Jvm.ClassFile.FieldType.int) rX6_orderSet [(.ref (kh K))] M (some S) (some (.int o)) M (some S) := by
  refine gMet.of pn_X6 (Nat.le_of_ble_eq_true rfl) fun X C E => ?_
  unfold fX6_orderSet at hf
  show GG K X 3 0 0 M (some S) 0 [(0, .ref (kh K))] []
  refine GG.iconst C dX6_orderSet_0 ic_0 ?_
  refine GG.istore_n C (lv' := [(1, .int (nI 0)), (0, .ref (kh K))]) dX6_orderSet_1 (by decide) rfl ?_
  refine GG.iconst C dX6_orderSet_2 ic_0 ?_
  refine GG.istore_n C (lv' := [(2, .int (nI 0)), (1, .int (nI 0)), (0, .ref (kh K))]) dX6_orderSet_3 (by decide) rfl ?_
  refine GG.sub [2, 1, 0] rfl ?_
  exact gX6_orderSet_4 C E  FU _ _ hf
