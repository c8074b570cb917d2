set_option maxRecDepth 100000
theorem gX0_status {K : gK} {S : Option MS}  {M : XS} {a0 : Nat} {o : Int32} (hf : fX0_status M a0 = some o) : gMet K yX0_status cX0_status 1 (some Jvm.ClassFile.FieldType.int) rX0_status [(.ref a0)] M S (some (.int o)) M S := by
  refine gMet.of pn_X0 (Nat.le_of_ble_eq_true rfl) fun X C E => ?_
  unfold fX0_status at hf
  show GG K X 1 0 0 M S 0 [(0, .ref a0)] []
  refine GG.aload_n C dX0_status_0 0 rfl ?_
  obtain ⟨c1, hf⟩ := gd_some hf
  refine GG.gx_X0_97 C rfl c1 dX0_status_1 ?_
  have hf := Option.some.inj hf
  subst hf
  exact GG.iret C E dX0_status_4
theorem gX0_top {K : gK} {S : Option MS}  {M : XS} {a0 : Nat} {o : Int64} (hf : fX0_top M a0 = some o) : gMet K yX0_top cX0_top 1 (some Jvm.ClassFile.FieldType.long) rX0_top [(.ref a0)] M S (some (.long o)) M S := by
  refine gMet.of pn_X0 (Nat.le_of_ble_eq_true rfl) fun X C E => ?_
  unfold fX0_top at hf
  show GG K X 1 0 0 M S 0 [(0, .ref a0)] []
  refine GG.aload_n C dX0_top_0 0 rfl ?_
  obtain ⟨c1, hf⟩ := gd_some hf
  refine GG.gx_X0_100 C rfl c1 dX0_top_1 ?_
  have hf := Option.some.inj hf
  subst hf
  exact GG.lret C E dX0_top_4
theorem gX0_bottom {K : gK} {S : Option MS}  {M : XS} {a0 : Nat} {o : Int64} (hf : fX0_bottom M a0 = some o) : gMet K yX0_bottom cX0_bottom 1 (some Jvm.ClassFile.FieldType.long) rX0_bottom [(.ref a0)] M S (some (.long o)) M S := by
  refine gMet.of pn_X0 (Nat.le_of_ble_eq_true rfl) fun X C E => ?_
  unfold fX0_bottom at hf
  show GG K X 1 0 0 M S 0 [(0, .ref a0)] []
  refine GG.aload_n C dX0_bottom_0 0 rfl ?_
  obtain ⟨c1, hf⟩ := gd_some hf
  refine GG.gx_X0_48 C rfl c1 dX0_bottom_1 ?_
  have hf := Option.some.inj hf
  subst hf
  exact GG.lret C E dX0_bottom_4
theorem gX0_isTray {K : gK} {M : XS} {S : Option MS}  {a0 : Int32} {o : Int32} (hf : fX0_isTray a0 = some o) : gMet K yX0_isTray cX0_isTray 1 (some Jvm.ClassFile.FieldType.boolean) rX0_isTray [(.int a0)] M S (some (.int o)) M S := by
  refine gMet.of pn_X0 (Nat.le_of_ble_eq_true rfl) fun X C E => ?_
  unfold fX0_isTray at hf
  show GG K X 1 0 0 M S 0 [(0, .int a0)] []
  refine GG.iload_n C dX0_isTray_0 0 rfl ?_
  refine GG.if_lt C (tgt := 13) dX0_isTray_1 (by decide) (fun c1 => ?_) (fun c1 => ?_)
  · have hf := if_t hf c1
    refine GG.iconst C dX0_isTray_13 ic_0 ?_
    have hf := Option.some.inj hf
    subst hf
    exact GG.zret C zb_0 E dX0_isTray_14
  · have hf := if_f hf c1
    refine GG.iload_n C dX0_isTray_4 0 rfl ?_
    refine GG.iconst C dX0_isTray_5 ic_4 ?_
    refine GG.icmp_ge C (tgt := 13) dX0_isTray_6 (by decide) (fun c2 => ?_) (fun c2 => ?_)
    · have hf := if_t hf c2
      refine GG.iconst C dX0_isTray_13 ic_0 ?_
      have hf := Option.some.inj hf
      subst hf
      exact GG.zret C zb_0 E dX0_isTray_14
    · have hf := if_f hf c2
      refine GG.iconst C dX0_isTray_9 ic_1 ?_
      refine GG.goto C (tgt := 14) dX0_isTray_10 (by decide) ?_
      have hf := Option.some.inj hf
      subst hf
      exact GG.zret C zb_1 E dX0_isTray_14
theorem gX0_is {K : gK} {S : Option MS}  {M : XS} {a0 : Nat} {a1 : Int32} {o : (Int32 × XS)} (hf : fX0_is M a0 a1 = some o) : gMet K yX0_is cX0_is 2 (some Jvm.ClassFile.FieldType.boolean) rX0_is [(.ref a0), (.int a1)] M S (some (.int o.1)) o.2 S := by
  refine gMet.of pn_X0 (Nat.le_of_ble_eq_true rfl) fun X C E => ?_
  unfold fX0_is at hf
  show GG K X 2 0 0 M S 0 [(0, .ref a0), (1, .int a1)] []
  refine GG.aload_n C dX0_is_0 0 rfl ?_
  refine GG.iload_n C dX0_is_1 1 rfl ?_
  obtain ⟨c1, hf⟩ := gd_some hf
  refine GG.px_X0_97 C rfl c1 dX0_is_2 ?_
  refine GG.topM fun M2 hM2 => ?_
  have hf := ltb_s hM2 hf
  refine GG.iload_n C dX0_is_5 1 rfl ?_
  refine GG.if_ne C (tgt := 13) dX0_is_6 (by decide) (fun c3 => ?_) (fun c3 => ?_)
  · have hf := if_f hf c3
    refine GG.iconst C dX0_is_13 ic_0 ?_
    have hf := Option.some.inj hf
    subst hf
    exact GG.zret C zb_0 E dX0_is_14
  · have hf := if_t hf c3
    refine GG.iconst C dX0_is_9 ic_1 ?_
    refine GG.goto C (tgt := 14) dX0_is_10 (by decide) ?_
    have hf := Option.some.inj hf
    subst hf
    exact GG.zret C zb_1 E dX0_is_14
theorem gX0_none {K : gK} {S : Option MS}  {M : XS} {a0 : Nat} {a1 : Int32} {o : (Int32 × XS)} (hf : fX0_none M a0 a1 = some o) : gMet K yX0_none cX0_none 2 (some Jvm.ClassFile.FieldType.int) rX0_none [(.ref a0), (.int a1)] M S (some (.int o.1)) o.2 S := by
  refine gMet.of pn_X0 (Nat.le_of_ble_eq_true rfl) fun X C E => ?_
  unfold fX0_none at hf
  show GG K X 2 0 0 M S 0 [(0, .ref a0), (1, .int a1)] []
  refine GG.aload_n C dX0_none_0 0 rfl ?_
  refine GG.iload_n C dX0_none_1 1 rfl ?_
  obtain ⟨c1, hf⟩ := gd_some hf
  refine GG.px_X0_97 C rfl c1 dX0_none_2 ?_
  refine GG.topM fun M2 hM2 => ?_
  have hf := ltb_s hM2 hf
  refine GG.iconst C dX0_none_5 ic_m1 ?_
  have hf := Option.some.inj hf
  subst hf
  exact GG.iret C E dX0_none_6
theorem gX0_four_3 {K : gK} {X : gX} {S : Option MS} (C : gC K X cX0_four 3 yX0_four none rX0_four)  {o : XS} (E : gE K X none o S rX0_four.cells rX0_four.slots)   :
    ∀ (n : Nat) (M : XS) (a0 : Nat) (a1 : Int32) (a2 : Int32), fX0_four_3  n M a0 a1 a2 = some o → GG K X 3 0 0 M S 3 [(0, .ref a0), (1, .int a1), (2, .int a2)] [] := by
  intro n
  induction n with
  | zero => intro M a0 a1 a2 hf; cases hf
  | succ n ih =>
    intro M a0 a1 a2 hf
    rw [fX0_four_3] at hf
    refine GG.iload_n C dX0_four_3 2 rfl ?_
    refine GG.if_lt C (tgt := 45) dX0_four_4 (by decide) (fun c1 => ?_) (fun c1 => ?_)
    · have hf := if_t hf c1
      have hf := Option.some.inj hf
      subst hf
      exact GG.vret C E dX0_four_45
    · have hf := if_f hf c1
      refine GG.aload_n C dX0_four_7 0 rfl ?_
      obtain ⟨c2, hf⟩ := gd_some hf
      obtain ⟨r3, hr3, hf⟩ := obd_some hf
      refine GG.gx_X0_23 C rfl c2 hr3 dX0_four_8 ?_
      obtain ⟨c4, hf⟩ := gd_some hf
      obtain ⟨r5, hr5, hf⟩ := obd_some hf
      refine GG.gx_X0_166 C rfl c4 hr5 dX0_four_11 ?_
      refine GG.aload_n C dX0_four_14 0 rfl ?_
      obtain ⟨r6, hr6, hf⟩ := obd_some hf
      refine GG.gx_X0_23 C rfl c2 hr6 dX0_four_15 ?_
      obtain ⟨c7, hf⟩ := gd_some hf
      refine GG.gx_X0_159 C rfl c7 dX0_four_18 ?_
      refine GG.iload_n C dX0_four_21 1 rfl ?_
      refine GG.iload_n C dX0_four_22 2 rfl ?_
      refine GG.ishr C dX0_four_23 ?_
      refine GG.i2b C dX0_four_24 ?_
      obtain ⟨M8, hM8, hf⟩ := obd_some hf
      refine GG.bast C hM8 dX0_four_25 ?_
      refine GG.aload_n C dX0_four_26 0 rfl ?_
      obtain ⟨c9, hf⟩ := gd_some hf
      obtain ⟨r10, hr10, hf⟩ := obd_some hf
      refine GG.gx_X0_23 C rfl c9 hr10 dX0_four_27 ?_
      refine GG.dup C dX0_four_30 rfl ?_
      obtain ⟨c11, hf⟩ := gd_some hf
      refine GG.gx_X0_159 C rfl c11 dX0_four_31 ?_
      refine GG.iconst C dX0_four_34 ic_1 ?_
      refine GG.iadd C dX0_four_35 ?_
      refine GG.px_X0_159 C rfl c11 dX0_four_36 ?_
      refine GG.topM fun M12 hM12 => ?_
      have hf := ltb_s hM12 hf
      refine GG.iinc C (v := (a2 + (-8 : Int32))) (lv' := [(2, .int (a2 + (-8 : Int32))), (0, .ref a0), (1, .int a1)]) dX0_four_39 2 rfl (congrArg (a2 + ·) ic_m8) (by decide) rfl ?_
      refine GG.goto C (tgt := 3) dX0_four_42 (by decide) ?_
      refine GG.sub [1, 2, 0] rfl ?_
      exact ih _ _ _ _ hf
theorem gX0_four {K : gK} {S : Option MS}  {M : XS} {a0 : Nat} {a1 : Int32} {o : XS} (hf : fX0_four M a0 a1 = some o) : gMet K yX0_four cX0_four 3 none rX0_four [(.ref a0), (.int a1)] M S none o S := by
  refine gMet.of pn_X0 (Nat.le_of_ble_eq_true rfl) fun X C E => ?_
  unfold fX0_four at hf
  show GG K X 3 0 0 M S 0 [(0, .ref a0), (1, .int a1)] []
  refine GG.bipush C dX0_four_0 bp_24 ?_
  refine GG.istore_n C (lv' := [(2, .int (nI 24)), (0, .ref a0), (1, .int a1)]) dX0_four_2 (by decide) rfl ?_
  refine GG.sub [1, 2, 0] rfl ?_
  exact gX0_four_3 C E  FU _ _ _ _ hf
theorem gX0_feed {K : gK} {S : Option MS}  {M : XS} {a0 : Nat} {a1 : Int32} {a2 : Int32} {a3 : Int32} {a4 : Int32} {a5 : Int32} {o : (Int32 × XS)} (hf : fX0_feed M a0 a1 a2 a3 a4 a5 = some o) : gMet K yX0_feed cX0_feed 6 (some Jvm.ClassFile.FieldType.int) rX0_feed [(.ref a0), (.int a1), (.int a2), (.int a3), (.int a4), (.int a5)] M S (some (.int o.1)) o.2 S := by
  refine gMet.of pn_X0 (Nat.le_of_ble_eq_true rfl) fun X C E => ?_
  unfold fX0_feed at hf
  show GG K X 6 0 0 M S 0 [(0, .ref a0), (1, .int a1), (2, .int a2), (3, .int a3), (4, .int a4), (5, .int a5)] []
  refine GG.aload_n C dX0_feed_0 0 rfl ?_
  obtain ⟨c1, hf⟩ := gd_some hf
  obtain ⟨r2, hr2, hf⟩ := obd_some hf
  refine GG.gx_X0_23 C rfl c1 hr2 dX0_feed_1 ?_
  obtain ⟨c3, hf⟩ := gd_some hf
  refine GG.gx_X0_159 C rfl c3 dX0_feed_4 ?_
  refine GG.bipush C dX0_feed_7 bp_20 ?_
  refine GG.iadd C dX0_feed_9 ?_
  refine GG.sipush C dX0_feed_10 sp_900 ?_
  refine GG.icmp_le C (tgt := 18) dX0_feed_13 (by decide) (fun c4 => ?_) (fun c4 => ?_)
  · have hf := if_t hf c4
    refine GG.aload_n C dX0_feed_18 0 rfl ?_
    refine GG.iload_n C dX0_feed_19 1 rfl ?_
    obtain ⟨p5, hp5, hf⟩ := obd_some hf
    refine GG.c_X0_162 C rfl (gX0_four hp5) c1 ⟨Nat.le_of_ble_eq_true rfl, Nat.le_of_ble_eq_true rfl⟩ ⟨Nat.le_of_ble_eq_true rfl, Nat.le_of_ble_eq_true rfl⟩ (Nat.le_of_ble_eq_true rfl) dX0_feed_20 ?_
    refine GG.aload_n C dX0_feed_23 0 rfl ?_
    refine GG.iload_n C dX0_feed_24 2 rfl ?_
    obtain ⟨c6, hf⟩ := gd_some hf
    obtain ⟨p7, hp7, hf⟩ := obd_some hf
    refine GG.c_X0_162 C rfl (gX0_four hp7) c6 ⟨Nat.le_of_ble_eq_true rfl, Nat.le_of_ble_eq_true rfl⟩ ⟨Nat.le_of_ble_eq_true rfl, Nat.le_of_ble_eq_true rfl⟩ (Nat.le_of_ble_eq_true rfl) dX0_feed_25 ?_
    refine GG.aload_n C dX0_feed_28 0 rfl ?_
    refine GG.iload_n C dX0_feed_29 3 rfl ?_
    obtain ⟨c8, hf⟩ := gd_some hf
    obtain ⟨p9, hp9, hf⟩ := obd_some hf
    refine GG.c_X0_162 C rfl (gX0_four hp9) c8 ⟨Nat.le_of_ble_eq_true rfl, Nat.le_of_ble_eq_true rfl⟩ ⟨Nat.le_of_ble_eq_true rfl, Nat.le_of_ble_eq_true rfl⟩ (Nat.le_of_ble_eq_true rfl) dX0_feed_30 ?_
    refine GG.aload_n C dX0_feed_33 0 rfl ?_
    refine GG.iload C dX0_feed_34 4 rfl ?_
    obtain ⟨c10, hf⟩ := gd_some hf
    obtain ⟨p11, hp11, hf⟩ := obd_some hf
    refine GG.c_X0_162 C rfl (gX0_four hp11) c10 ⟨Nat.le_of_ble_eq_true rfl, Nat.le_of_ble_eq_true rfl⟩ ⟨Nat.le_of_ble_eq_true rfl, Nat.le_of_ble_eq_true rfl⟩ (Nat.le_of_ble_eq_true rfl) dX0_feed_36 ?_
    refine GG.aload_n C dX0_feed_39 0 rfl ?_
    refine GG.iload C dX0_feed_40 5 rfl ?_
    obtain ⟨c12, hf⟩ := gd_some hf
    obtain ⟨p13, hp13, hf⟩ := obd_some hf
    refine GG.c_X0_162 C rfl (gX0_four hp13) c12 ⟨Nat.le_of_ble_eq_true rfl, Nat.le_of_ble_eq_true rfl⟩ ⟨Nat.le_of_ble_eq_true rfl, Nat.le_of_ble_eq_true rfl⟩ (Nat.le_of_ble_eq_true rfl) dX0_feed_42 ?_
    refine GG.aload_n C dX0_feed_45 0 rfl ?_
    obtain ⟨c14, hf⟩ := gd_some hf
    obtain ⟨r15, hr15, hf⟩ := obd_some hf
    refine GG.gx_X0_23 C rfl c14 hr15 dX0_feed_46 ?_
    obtain ⟨c16, hf⟩ := gd_some hf
    refine GG.gx_X0_159 C rfl c16 dX0_feed_49 ?_
    have hf := Option.some.inj hf
    subst hf
    exact GG.iret C E dX0_feed_52
  · have hf := if_f hf c4
    refine GG.iconst C dX0_feed_16 ic_m1 ?_
    have hf := Option.some.inj hf
    subst hf
    exact GG.iret C E dX0_feed_17
theorem gX0_takes {K : gK} {S : Option MS}  {M : XS} {a0 : Nat} {a1 : Int32} {a2 : Int32} {o : (Int32 × XS)} (hf : fX0_takes M a0 a1 a2 = some o) : gMet K yX0_takes cX0_takes 3 (some Jvm.ClassFile.FieldType.boolean) rX0_takes [(.ref a0), (.int a1), (.int a2)] M S (some (.int o.1)) o.2 S := by
  refine gMet.of pn_X0 (Nat.le_of_ble_eq_true rfl) fun X C E => ?_
  unfold fX0_takes at hf
  show GG K X 3 0 0 M S 0 [(0, .ref a0), (1, .int a1), (2, .int a2)] []
  refine GG.iload_n C dX0_takes_0 1 rfl ?_
  refine GG.if_lt C (tgt := 20) dX0_takes_1 (by decide) (fun c1 => ?_) (fun c1 => ?_)
  · have hf := if_t hf c1
    refine GG.iconst C dX0_takes_20 ic_0 ?_
    have hf := Option.some.inj hf
    subst hf
    exact GG.zret C zb_0 E dX0_takes_21
  · have hf := if_f hf c1
    refine GG.iload_n C dX0_takes_4 1 rfl ?_
    refine GG.aload_n C dX0_takes_5 0 rfl ?_
    obtain ⟨c2, hf⟩ := gd_some hf
    obtain ⟨r3, hr3, hf⟩ := obd_some hf
    refine GG.gx_X0_23 C rfl c2 hr3 dX0_takes_6 ?_
    obtain ⟨c4, hf⟩ := gd_some hf
    refine GG.gx_X0_159 C rfl c4 dX0_takes_9 ?_
    refine GG.icmp_gt C (tgt := 20) dX0_takes_12 (by decide) (fun c5 => ?_) (fun c5 => ?_)
    · have hf := if_t hf c5
      refine GG.iconst C dX0_takes_20 ic_0 ?_
      have hf := Option.some.inj hf
      subst hf
      exact GG.zret C zb_0 E dX0_takes_21
    · have hf := if_f hf c5
      refine GG.iload_n C dX0_takes_15 1 rfl ?_
      refine GG.iload_n C dX0_takes_16 2 rfl ?_
      refine GG.icmp_le C (tgt := 22) dX0_takes_17 (by decide) (fun c6 => ?_) (fun c6 => ?_)
      · have hf := if_t hf c6
        refine GG.aload_n C dX0_takes_22 0 rfl ?_
        obtain ⟨r7, hr7, hf⟩ := obd_some hf
        refine GG.gx_X0_23 C rfl c2 hr7 dX0_takes_23 ?_
        refine GG.iconst C dX0_takes_26 ic_0 ?_
        obtain ⟨c8, hf⟩ := gd_some hf
        refine GG.px_X0_159 C rfl c8 dX0_takes_27 ?_
        refine GG.topM fun M9 hM9 => ?_
        have hf := ltb_s hM9 hf
        refine GG.aload_n C dX0_takes_30 0 rfl ?_
        refine GG.iconst C dX0_takes_31 ic_0 ?_
        obtain ⟨c10, hf⟩ := gd_some hf
        refine GG.px_X0_41 C rfl c10 dX0_takes_32 ?_
        refine GG.topM fun M11 hM11 => ?_
        have hf := ltb_s hM11 hf
        refine GG.aload_n C dX0_takes_35 0 rfl ?_
        refine GG.iconst C dX0_takes_36 ic_m1 ?_
        obtain ⟨c12, hf⟩ := gd_some hf
        refine GG.px_X0_45 C rfl c12 dX0_takes_37 ?_
        refine GG.topM fun M13 hM13 => ?_
        have hf := ltb_s hM13 hf
        refine GG.iconst C dX0_takes_40 ic_1 ?_
        have hf := Option.some.inj hf
        subst hf
        exact GG.zret C zb_1 E dX0_takes_41
      · have hf := if_f hf c6
        refine GG.iconst C dX0_takes_20 ic_0 ?_
        have hf := Option.some.inj hf
        subst hf
        exact GG.zret C zb_0 E dX0_takes_21
theorem gX0_refused {K : gK} {S : Option MS}  {M : XS} {a0 : Nat} {a1 : Nat} {o : (Int32 × XS)} (hf : fX0_refused M a0 a1 = some o) : gMet K yX0_refused cX0_refused 2 (some Jvm.ClassFile.FieldType.int) rX0_refused [(.ref a0), (.ref a1)] M S (some (.int o.1)) o.2 S := by
  refine gMet.of pn_X0 (Nat.le_of_ble_eq_true rfl) fun X C E => ?_
  unfold fX0_refused at hf
  show GG K X 2 0 0 M S 0 [(0, .ref a0), (1, .ref a1)] []
  refine GG.aload_n C dX0_refused_0 0 rfl ?_
  refine GG.aload_n C dX0_refused_1 1 rfl ?_
  obtain ⟨c1, hf⟩ := gd_some hf
  refine GG.gx_X0_170 C rfl c1 dX0_refused_2 ?_
  obtain ⟨c2, hf⟩ := gd_some hf
  refine GG.px_X0_41 C rfl c2 dX0_refused_5 ?_
  refine GG.topM fun M3 hM3 => ?_
  have hf := ltb_s hM3 hf
  refine GG.aload_n C dX0_refused_8 0 rfl ?_
  refine GG.aload_n C dX0_refused_9 1 rfl ?_
  obtain ⟨c4, hf⟩ := gd_some hf
  refine GG.gx_X0_173 C rfl c4 dX0_refused_10 ?_
  obtain ⟨c5, hf⟩ := gd_some hf
  refine GG.px_X0_45 C rfl c5 dX0_refused_13 ?_
  refine GG.topM fun M6 hM6 => ?_
  have hf := ltb_s hM6 hf
  refine GG.aload_n C dX0_refused_16 0 rfl ?_
  refine GG.bipush C dX0_refused_17 bp_10 ?_
  obtain ⟨c7, hf⟩ := gd_some hf
  obtain ⟨p8, hp8, hf⟩ := obd_some hf
  refine GG.c_X0_124 C rfl (gX0_none hp8) c7 ⟨Nat.le_of_ble_eq_true rfl, Nat.le_of_ble_eq_true rfl⟩ ⟨Nat.le_of_ble_eq_true rfl, Nat.le_of_ble_eq_true rfl⟩ (Nat.le_of_ble_eq_true rfl) dX0_refused_19 ?_
  have hf := Option.some.inj hf
  subst hf
  exact GG.iret C E dX0_refused_22
theorem gX0_gives {K : gK} {S : Option MS}  {M : XS} {a0 : Nat} {a1 : Int32} {o : (Int32 × XS)} (hf : fX0_gives M a0 a1 = some o) : gMet K yX0_gives cX0_gives 2 (some Jvm.ClassFile.FieldType.int) rX0_gives [(.ref a0), (.int a1)] M S (some (.int o.1)) o.2 S := by
  refine gMet.of pn_X0 (Nat.le_of_ble_eq_true rfl) fun X C E => ?_
  unfold fX0_gives at hf
  show GG K X 2 0 0 M S 0 [(0, .ref a0), (1, .int a1)] []
  refine GG.aload_n C dX0_gives_0 0 rfl ?_
  refine GG.iconst C dX0_gives_1 ic_0 ?_
  obtain ⟨c1, hf⟩ := gd_some hf
  refine GG.px_X0_97 C rfl c1 dX0_gives_2 ?_
  refine GG.topM fun M2 hM2 => ?_
  have hf := ltb_s hM2 hf
  refine GG.iload_n C dX0_gives_5 1 rfl ?_
  have hf := Option.some.inj hf
  subst hf
  exact GG.iret C E dX0_gives_6
theorem gX0_fault {K : gK} {S : Option MS}  {M : XS} {a0 : Nat} {a1 : Int32} {o : Int32} (hf : fX0_fault M a0 a1 = some o) : gMet K yX0_fault cX0_fault 2 (some Jvm.ClassFile.FieldType.int) rX0_fault [(.ref a0), (.int a1)] M S (some (.int o)) M S := by
  refine gMet.of pn_X0 (Nat.le_of_ble_eq_true rfl) fun X C E => ?_
  unfold fX0_fault at hf
  show GG K X 2 0 0 M S 0 [(0, .ref a0), (1, .int a1)] []
  refine GG.iload_n C dX0_fault_0 1 rfl ?_
  refine GG.if_ne C (tgt := 11) dX0_fault_1 (by decide) (fun c1 => ?_) (fun c1 => ?_)
  · have hf := if_f hf c1
    refine GG.iload_n C dX0_fault_11 1 rfl ?_
    refine GG.iconst C dX0_fault_12 ic_1 ?_
    refine GG.icmp_ne C (tgt := 23) dX0_fault_13 (by decide) (fun c2 => ?_) (fun c2 => ?_)
    · have hf := if_f hf c2
      refine GG.iconst C dX0_fault_23 ic_m1 ?_
      have hf := Option.some.inj hf
      subst hf
      exact GG.iret C E dX0_fault_24
    · have hf := if_t hf c2
      refine GG.aload_n C dX0_fault_16 0 rfl ?_
      obtain ⟨c3, hf⟩ := gd_some hf
      refine GG.gx_X0_45 C rfl c3 dX0_fault_17 ?_
      refine GG.goto C (tgt := 24) dX0_fault_20 (by decide) ?_
      have hf := Option.some.inj hf
      subst hf
      exact GG.iret C E dX0_fault_24
  · have hf := if_t hf c1
    refine GG.aload_n C dX0_fault_4 0 rfl ?_
    obtain ⟨c4, hf⟩ := gd_some hf
    refine GG.gx_X0_41 C rfl c4 dX0_fault_5 ?_
    refine GG.goto C (tgt := 24) dX0_fault_8 (by decide) ?_
    have hf := Option.some.inj hf
    subst hf
    exact GG.iret C E dX0_fault_24
theorem gX0_many_58 {K : gK} {X : gX} {S : Option MS} (C : gC K X cX0_many 4 yX0_many (some Jvm.ClassFile.FieldType.int) rX0_many)  {o : (Int32 × XS)} (E : gE K X (some (.int o.1)) o.2 S rX0_many.cells rX0_many.slots)   :
    ∀ (n : Nat) (M : XS) (a0 : Nat) (a2 : Int32) (a3 : Int32), fX0_many_58  n M a0 a2 a3 = some o → GG K X 4 0 0 M S 58 [(0, .ref a0), (2, .int a2), (3, .int a3)] [] := by
  intro n
  induction n with
  | zero => intro M a0 a2 a3 hf; cases hf
  | succ n ih =>
    intro M a0 a2 a3 hf
    rw [fX0_many_58] at hf
    refine GG.iload_n C dX0_many_58 2 rfl ?_
    refine GG.aload_n C dX0_many_59 0 rfl ?_
    obtain ⟨c27, hf⟩ := gd_some hf
    obtain ⟨r28, hr28, hf⟩ := obd_some hf
    refine GG.gx_X0_37 C rfl c27 hr28 dX0_many_60 ?_
    obtain ⟨c29, hf⟩ := gd_some hf
    refine GG.gx_X0_149 C rfl c29 dX0_many_63 ?_
    refine GG.icmp_ge C (tgt := 98) dX0_many_66 (by decide) (fun c30 => ?_) (fun c30 => ?_)
    · have hf := if_t hf c30
      refine GG.aload_n C dX0_many_98 0 rfl ?_
      refine GG.iload_n C dX0_many_99 1 rfl ?_
      obtain ⟨p31, hp31, hf⟩ := obd_some hf
      refine GG.c_X0_197 C rfl (gX0_gives hp31) c27 ⟨Nat.le_of_ble_eq_true rfl, Nat.le_of_ble_eq_true rfl⟩ ⟨Nat.le_of_ble_eq_true rfl, Nat.le_of_ble_eq_true rfl⟩ (Nat.le_of_ble_eq_true rfl) dX0_many_100 ?_
      have hf := Option.some.inj hf
      subst hf
      exact GG.iret C E dX0_many_103
    · have hf := if_f hf c30
      refine GG.iload_n C dX0_many_69 1 rfl ?_
      refine GG.aload_n C dX0_many_70 0 rfl ?_
      obtain ⟨r32, hr32, hf⟩ := obd_some hf
      refine GG.gx_X0_37 C rfl c27 hr32 dX0_many_71 ?_
      obtain ⟨c33, hf⟩ := gd_some hf
      obtain ⟨r34, hr34, hf⟩ := obd_some hf
      refine GG.gx_X0_208 C rfl c33 hr34 dX0_many_74 ?_
      refine GG.iload_n C dX0_many_77 2 rfl ?_
      obtain ⟨r35, hr35, hf⟩ := obd_some hf
      refine GG.aald C 0 hr35 (by decide) dX0_many_78 ?_
      obtain ⟨c36, hf⟩ := gd_some hf
      obtain ⟨v37, hv37, hf⟩ := obd_some hf
      refine GG.d_X0_212 C rfl hv37 ⟨Nat.le_of_ble_eq_true rfl, Nat.le_of_ble_eq_true rfl⟩ (Nat.le_of_ble_eq_true rfl) (Nat.le_of_ble_eq_true rfl) (Nat.le_of_ble_eq_true rfl) dX0_many_79 ?_
      refine GG.if_ne C (tgt := 89) dX0_many_82 (by decide) (fun c38 => ?_) (fun c38 => ?_)
      · have hf := if_f hf c38
        refine GG.iconst C dX0_many_89 ic_0 ?_
        refine GG.iadd C dX0_many_90 ?_
        refine GG.topi fun x39 hx39 => ?_
        have hf := ltb_s hx39 hf
        refine GG.istore_n C (lv' := [(2, .int x39), (0, .ref a0), (3, .int a3)]) dX0_many_91 (by decide) rfl ?_
        refine GG.iinc C (v := (a3 + (nI 1))) (lv' := [(3, .int (a3 + (nI 1))), (2, .int x39), (0, .ref a0)]) dX0_many_92 2 rfl (congrArg (a3 + ·) ic_1) (by decide) rfl ?_
        refine GG.goto C (tgt := 58) dX0_many_95 (by decide) ?_
        refine GG.sub [2, 1, 0] rfl ?_
        exact ih _ _ _ _ hf
      · have hf := if_t hf c38
        refine GG.iconst C dX0_many_85 ic_1 ?_
        refine GG.goto C (tgt := 90) dX0_many_86 (by decide) ?_
        refine GG.iadd C dX0_many_90 ?_
        refine GG.topi fun x40 hx40 => ?_
        have hf := ltb_s hx40 hf
        refine GG.istore_n C (lv' := [(2, .int x40), (0, .ref a0), (3, .int a3)]) dX0_many_91 (by decide) rfl ?_
        refine GG.iinc C (v := (a3 + (nI 1))) (lv' := [(3, .int (a3 + (nI 1))), (2, .int x40), (0, .ref a0)]) dX0_many_92 2 rfl (congrArg (a3 + ·) ic_1) (by decide) rfl ?_
        refine GG.goto C (tgt := 58) dX0_many_95 (by decide) ?_
        refine GG.sub [2, 1, 0] rfl ?_
        exact ih _ _ _ _ hf
theorem gX0_many_106 {K : gK} {X : gX} {S : Option MS} (C : gC K X cX0_many 4 yX0_many (some Jvm.ClassFile.FieldType.int) rX0_many)  {o : (Int32 × XS)} (E : gE K X (some (.int o.1)) o.2 S rX0_many.cells rX0_many.slots)   :
    ∀ (n : Nat) (M : XS) (a0 : Nat) (a2 : Int32) (a3 : Int32), fX0_many_106  n M a0 a2 a3 = some o → GG K X 4 0 0 M S 106 [(0, .ref a0), (2, .int a2), (3, .int a3)] [] := by
  intro n
  induction n with
  | zero => intro M a0 a2 a3 hf; cases hf
  | succ n ih =>
    intro M a0 a2 a3 hf
    rw [fX0_many_106] at hf
    refine GG.iload_n C dX0_many_106 2 rfl ?_
    refine GG.aload_n C dX0_many_107 0 rfl ?_
    obtain ⟨c15, hf⟩ := gd_some hf
    obtain ⟨r16, hr16, hf⟩ := obd_some hf
    refine GG.gx_X0_37 C rfl c15 hr16 dX0_many_108 ?_
    obtain ⟨c17, hf⟩ := gd_some hf
    refine GG.gx_X0_149 C rfl c17 dX0_many_111 ?_
    refine GG.icmp_ge C (tgt := 141) dX0_many_114 (by decide) (fun c18 => ?_) (fun c18 => ?_)
    · have hf := if_t hf c18
      refine GG.aload_n C dX0_many_141 0 rfl ?_
      refine GG.iload_n C dX0_many_142 1 rfl ?_
      refine GG.iconst C dX0_many_143 ic_2 ?_
      refine GG.idiv C dX0_many_144 (by decide) ?_
      obtain ⟨p19, hp19, hf⟩ := obd_some hf
      refine GG.c_X0_197 C rfl (gX0_gives hp19) c15 ⟨Nat.le_of_ble_eq_true rfl, Nat.le_of_ble_eq_true rfl⟩ ⟨Nat.le_of_ble_eq_true rfl, Nat.le_of_ble_eq_true rfl⟩ (Nat.le_of_ble_eq_true rfl) dX0_many_145 ?_
      have hf := Option.some.inj hf
      subst hf
      exact GG.iret C E dX0_many_148
    · have hf := if_f hf c18
      refine GG.iload_n C dX0_many_117 1 rfl ?_
      refine GG.aload_n C dX0_many_118 0 rfl ?_
      obtain ⟨r20, hr20, hf⟩ := obd_some hf
      refine GG.gx_X0_37 C rfl c15 hr20 dX0_many_119 ?_
      obtain ⟨c21, hf⟩ := gd_some hf
      obtain ⟨r22, hr22, hf⟩ := obd_some hf
      refine GG.gx_X0_208 C rfl c21 hr22 dX0_many_122 ?_
      refine GG.iload_n C dX0_many_125 2 rfl ?_
      obtain ⟨r23, hr23, hf⟩ := obd_some hf
      refine GG.aald C 0 hr23 (by decide) dX0_many_126 ?_
      obtain ⟨c24, hf⟩ := gd_some hf
      refine GG.gx_X0_216 C rfl c24 dX0_many_127 ?_
      obtain ⟨v25, hv25, hf⟩ := obd_some hf
      refine GG.c_X0_219 C rfl (gJ12_bitCount hv25) ⟨Nat.le_of_ble_eq_true rfl, Nat.le_of_ble_eq_true rfl⟩ ⟨Nat.le_of_ble_eq_true rfl, Nat.le_of_ble_eq_true rfl⟩ (Nat.le_of_ble_eq_true rfl) dX0_many_130 ?_
      refine GG.iadd C dX0_many_133 ?_
      refine GG.topi fun x26 hx26 => ?_
      have hf := ltb_s hx26 hf
      refine GG.istore_n C (lv' := [(2, .int x26), (0, .ref a0), (3, .int a3)]) dX0_many_134 (by decide) rfl ?_
      refine GG.iinc C (v := (a3 + (nI 1))) (lv' := [(3, .int (a3 + (nI 1))), (2, .int x26), (0, .ref a0)]) dX0_many_135 2 rfl (congrArg (a3 + ·) ic_1) (by decide) rfl ?_
      refine GG.goto C (tgt := 106) dX0_many_138 (by decide) ?_
      refine GG.sub [2, 1, 0] rfl ?_
      exact ih _ _ _ _ hf
theorem gX0_many {K : gK} {S : Option MS}  {M : XS} {a0 : Nat} {a1 : Int32} {o : (Int32 × XS)} (hf : fX0_many M a0 a1 = some o) : gMet K yX0_many cX0_many 4 (some Jvm.ClassFile.FieldType.int) rX0_many [(.ref a0), (.int a1)] M S (some (.int o.1)) o.2 S := by
  refine gMet.of pn_X0 (Nat.le_of_ble_eq_true rfl) fun X C E => ?_
  unfold fX0_many at hf
  show GG K X 4 0 0 M S 0 [(0, .ref a0), (1, .int a1)] []
  refine GG.iconst C dX0_many_0 ic_0 ?_
  refine GG.istore_n C (lv' := [(2, .int (nI 0)), (0, .ref a0), (1, .int a1)]) dX0_many_1 (by decide) rfl ?_
  refine GG.iload_n C dX0_many_2 2 rfl ?_
  by_cases c1 : a1 = (nI 0)
  · have hf := if_t hf c1
    refine GG.tin C (k := 0) (off := 29) (tgt := 32) dX0_many_3 (by rw [c1]; rfl) (by decide) (by decide) rfl (by decide) ?_
    refine GG.aload_n C dX0_many_32 1 rfl ?_
    refine GG.aload_n C dX0_many_33 1 rfl ?_
    obtain ⟨c2, hf⟩ := gd_some hf
    obtain ⟨r3, hr3, hf⟩ := obd_some hf
    refine GG.gx_X0_37 C rfl c2 hr3 dX0_many_34 ?_
    obtain ⟨c4, hf⟩ := gd_some hf
    refine GG.gx_X0_149 C rfl c4 dX0_many_37 ?_
    obtain ⟨p5, hp5, hf⟩ := obd_some hf
    refine GG.c_X0_197 C rfl (gX0_gives hp5) c2 ⟨Nat.le_of_ble_eq_true rfl, Nat.le_of_ble_eq_true rfl⟩ ⟨Nat.le_of_ble_eq_true rfl, Nat.le_of_ble_eq_true rfl⟩ (Nat.le_of_ble_eq_true rfl) dX0_many_40 ?_
    have hf := Option.some.inj hf
    subst hf
    exact GG.iret C E dX0_many_43
  · have hf := if_f hf c1
    by_cases c6 : a1 = (nI 1)
    · have hf := if_t hf c6
      refine GG.tin C (k := 1) (off := 41) (tgt := 44) dX0_many_3 (by rw [c6]; rfl) (by decide) (by decide) rfl (by decide) ?_
      refine GG.aload_n C dX0_many_44 1 rfl ?_
      refine GG.aload_n C dX0_many_45 1 rfl ?_
      obtain ⟨c7, hf⟩ := gd_some hf
      obtain ⟨r8, hr8, hf⟩ := obd_some hf
      refine GG.gx_X0_37 C rfl c7 hr8 dX0_many_46 ?_
      obtain ⟨c9, hf⟩ := gd_some hf
      refine GG.gx_X0_152 C rfl c9 dX0_many_49 ?_
      obtain ⟨p10, hp10, hf⟩ := obd_some hf
      refine GG.c_X0_197 C rfl (gX0_gives hp10) c7 ⟨Nat.le_of_ble_eq_true rfl, Nat.le_of_ble_eq_true rfl⟩ ⟨Nat.le_of_ble_eq_true rfl, Nat.le_of_ble_eq_true rfl⟩ (Nat.le_of_ble_eq_true rfl) dX0_many_52 ?_
      have hf := Option.some.inj hf
      subst hf
      exact GG.iret C E dX0_many_55
    · have hf := if_f hf c6
      by_cases c11 : a1 = (nI 2)
      · have hf := if_t hf c11
        refine GG.tin C (k := 2) (off := 53) (tgt := 56) dX0_many_3 (by rw [c11]; rfl) (by decide) (by decide) rfl (by decide) ?_
        refine GG.iconst C dX0_many_56 ic_0 ?_
        refine GG.istore_n C (lv' := [(3, .int (nI 0)), (2, .int (nI 0)), (0, .ref a0), (1, .int a1)]) dX0_many_57 (by decide) rfl ?_
        refine GG.sub [2, 1, 0] rfl ?_
        exact gX0_many_58 C E  FU _ _ _ _ hf
      · have hf := if_f hf c11
        by_cases c12 : a1 = (nI 3)
        · have hf := if_t hf c12
          refine GG.tin C (k := 3) (off := 101) (tgt := 104) dX0_many_3 (by rw [c12]; rfl) (by decide) (by decide) rfl (by decide) ?_
          refine GG.iconst C dX0_many_104 ic_0 ?_
          refine GG.istore_n C (lv' := [(3, .int (nI 0)), (2, .int (nI 0)), (0, .ref a0), (1, .int a1)]) dX0_many_105 (by decide) rfl ?_
          refine GG.sub [2, 1, 0] rfl ?_
          exact gX0_many_106 C E  FU _ _ _ _ hf
        · have hf := if_f hf c12
          refine GG.tout C (tgt := 149) dX0_many_3 (by have qc1 := lv_neT c1 (a := 0) rfl; have qc6 := lv_neT c6 (a := 1) rfl; have qc11 := lv_neT c11 (a := 2) rfl; have qc12 := lv_neT c12 (a := 3) rfl; omega) (by decide) ?_
          refine GG.aload_n C dX0_many_149 1 rfl ?_
          refine GG.iconst C dX0_many_150 ic_5 ?_
          obtain ⟨c13, hf⟩ := gd_some hf
          obtain ⟨p14, hp14, hf⟩ := obd_some hf
          refine GG.c_X0_124 C rfl (gX0_none hp14) c13 ⟨Nat.le_of_ble_eq_true rfl, Nat.le_of_ble_eq_true rfl⟩ ⟨Nat.le_of_ble_eq_true rfl, Nat.le_of_ble_eq_true rfl⟩ (Nat.le_of_ble_eq_true rfl) dX0_many_151 ?_
          have hf := Option.some.inj hf
          subst hf
          exact GG.iret C E dX0_many_154
theorem gX0_isChange {K : gK} {S : Option MS}  {M : XS} {a0 : Nat} {a1 : Int64} {o : Int32} (hf : fX0_isChange M a0 a1 = some o) : gMet K yX0_isChange cX0_isChange 3 (some Jvm.ClassFile.FieldType.boolean) rX0_isChange [(.ref a0), (.long a1)] M S (some (.int o)) M S := by
  refine gMet.of pn_X0 (Nat.le_of_ble_eq_true rfl) fun X C E => ?_
  unfold fX0_isChange at hf
  show GG K X 3 0 0 M S 0 [(0, .ref a0), (1, .long a1)] []
  refine GG.lload_n C dX0_isChange_0 1 rfl ?_
  refine GG.lconst C dX0_isChange_1 lc_0 ?_
  refine GG.lcmp C dX0_isChange_2 ?_
  refine GG.if_lt C (tgt := 23) dX0_isChange_3 (by decide) (fun c1 => ?_) (fun c1 => ?_)
  · have hf := if_t hf c1
    refine GG.iconst C dX0_isChange_23 ic_0 ?_
    have hf := Option.some.inj hf
    subst hf
    exact GG.zret C zb_0 E dX0_isChange_24
  · have hf := if_f hf c1
    refine GG.lload_n C dX0_isChange_6 1 rfl ?_
    refine GG.aload_n C dX0_isChange_7 0 rfl ?_
    obtain ⟨c2, hf⟩ := gd_some hf
    obtain ⟨r3, hr3, hf⟩ := obd_some hf
    refine GG.gx_X0_37 C rfl c2 hr3 dX0_isChange_8 ?_
    obtain ⟨c4, hf⟩ := gd_some hf
    refine GG.gx_X0_149 C rfl c4 dX0_isChange_11 ?_
    refine GG.i2l C dX0_isChange_14 ?_
    refine GG.lcmp C dX0_isChange_15 ?_
    refine GG.if_ge C (tgt := 23) dX0_isChange_16 (by decide) (fun c5 => ?_) (fun c5 => ?_)
    · have hf := if_t hf c5
      refine GG.iconst C dX0_isChange_23 ic_0 ?_
      have hf := Option.some.inj hf
      subst hf
      exact GG.zret C zb_0 E dX0_isChange_24
    · have hf := if_f hf c5
      refine GG.iconst C dX0_isChange_19 ic_1 ?_
      refine GG.goto C (tgt := 24) dX0_isChange_20 (by decide) ?_
      have hf := Option.some.inj hf
      subst hf
      exact GG.zret C zb_1 E dX0_isChange_24
theorem gX0_change {K : gK} {S : Option MS}  {M : XS} {a0 : Nat} {a1 : Int32} {a2 : Int32} {o : (Int32 × XS)} (hf : fX0_change M a0 a1 a2 = some o) : gMet K yX0_change cX0_change 5 (some Jvm.ClassFile.FieldType.int) rX0_change [(.ref a0), (.int a1), (.int a2)] M S (some (.int o.1)) o.2 S := by
  refine gMet.of pn_X0 (Nat.le_of_ble_eq_true rfl) fun X C E => ?_
  unfold fX0_change at hf
  show GG K X 5 0 0 M S 0 [(0, .ref a0), (1, .int a1), (2, .int a2)] []
  refine GG.aload_n C dX0_change_0 0 rfl ?_
  refine GG.iload_n C dX0_change_1 1 rfl ?_
  refine GG.i2l C dX0_change_2 ?_
  obtain ⟨c1, hf⟩ := gd_some hf
  obtain ⟨v2, hv2, hf⟩ := obd_some hf
  refine GG.c_X0_224 C rfl (gX0_isChange hv2) c1 ⟨Nat.le_of_ble_eq_true rfl, Nat.le_of_ble_eq_true rfl⟩ ⟨Nat.le_of_ble_eq_true rfl, Nat.le_of_ble_eq_true rfl⟩ (Nat.le_of_ble_eq_true rfl) dX0_change_3 ?_
  refine GG.if_ne C (tgt := 15) dX0_change_6 (by decide) (fun c3 => ?_) (fun c3 => ?_)
  · have hf := if_f hf c3
    refine GG.aload_n C dX0_change_15 0 rfl ?_
    obtain ⟨r4, hr4, hf⟩ := obd_some hf
    refine GG.gx_X0_37 C rfl c1 hr4 dX0_change_16 ?_
    obtain ⟨c5, hf⟩ := gd_some hf
    obtain ⟨r6, hr6, hf⟩ := obd_some hf
    refine GG.gx_X0_208 C rfl c5 hr6 dX0_change_19 ?_
    refine GG.iload_n C dX0_change_22 1 rfl ?_
    obtain ⟨r7, hr7, hf⟩ := obd_some hf
    refine GG.aald C 0 hr7 (by decide) dX0_change_23 ?_
    refine GG.astore_n C (lv' := [(3, .ref r7), (0, .ref a0), (1, .int a1), (2, .int a2)]) dX0_change_24 (by decide) rfl ?_
    refine GG.iload_n C dX0_change_25 3 rfl ?_
    by_cases c8 : a2 = (nI 0)
    · have hf := if_t hf c8
      refine GG.tin C (k := 0) (off := 34) (tgt := 60) dX0_change_26 (by rw [c8]; rfl) (by decide) (by decide) rfl (by decide) ?_
      refine GG.aload_n C dX0_change_60 1 rfl ?_
      refine GG.aload_n C dX0_change_61 0 rfl ?_
      obtain ⟨c9, hf⟩ := gd_some hf
      obtain ⟨v10, hv10, hf⟩ := obd_some hf
      refine GG.d_X0_212 C rfl hv10 ⟨Nat.le_of_ble_eq_true rfl, Nat.le_of_ble_eq_true rfl⟩ (Nat.le_of_ble_eq_true rfl) (Nat.le_of_ble_eq_true rfl) (Nat.le_of_ble_eq_true rfl) dX0_change_62 ?_
      obtain ⟨p11, hp11, hf⟩ := obd_some hf
      refine GG.c_X0_197 C rfl (gX0_gives hp11) c1 ⟨Nat.le_of_ble_eq_true rfl, Nat.le_of_ble_eq_true rfl⟩ ⟨Nat.le_of_ble_eq_true rfl, Nat.le_of_ble_eq_true rfl⟩ (Nat.le_of_ble_eq_true rfl) dX0_change_65 ?_
      have hf := Option.some.inj hf
      subst hf
      exact GG.iret C E dX0_change_68
    · have hf := if_f hf c8
      by_cases c12 : a2 = (nI 1)
      · have hf := if_t hf c12
        refine GG.tin C (k := 1) (off := 43) (tgt := 69) dX0_change_26 (by rw [c12]; rfl) (by decide) (by decide) rfl (by decide) ?_
        refine GG.aload_n C dX0_change_69 1 rfl ?_
        refine GG.aload_n C dX0_change_70 0 rfl ?_
        obtain ⟨c13, hf⟩ := gd_some hf
        obtain ⟨v14, hv14, hf⟩ := obd_some hf
        refine GG.d_X0_228 C rfl hv14 ⟨Nat.le_of_ble_eq_true rfl, Nat.le_of_ble_eq_true rfl⟩ (Nat.le_of_ble_eq_true rfl) (Nat.le_of_ble_eq_true rfl) (Nat.le_of_ble_eq_true rfl) dX0_change_71 ?_
        obtain ⟨p15, hp15, hf⟩ := obd_some hf
        refine GG.c_X0_197 C rfl (gX0_gives hp15) c1 ⟨Nat.le_of_ble_eq_true rfl, Nat.le_of_ble_eq_true rfl⟩ ⟨Nat.le_of_ble_eq_true rfl, Nat.le_of_ble_eq_true rfl⟩ (Nat.le_of_ble_eq_true rfl) dX0_change_74 ?_
        have hf := Option.some.inj hf
        subst hf
        exact GG.iret C E dX0_change_77
      · have hf := if_f hf c12
        by_cases c16 : a2 = (nI 2)
        · have hf := if_t hf c16
          refine GG.tin C (k := 2) (off := 52) (tgt := 78) dX0_change_26 (by rw [c16]; rfl) (by decide) (by decide) rfl (by decide) ?_
          refine GG.aload_n C dX0_change_78 0 rfl ?_
          obtain ⟨c17, hf⟩ := gd_some hf
          refine GG.instP C c17 q1115 dX0_change_79 (fun c18 => ?_) (fun c18 => ?_)
          · have hf := if_t hf c18
            refine GG.if_eq C (tgt := 103) dX0_change_82 (by decide) (fun c19 => ?_) (fun c19 => ?_)
            · have hf := if_t hf c19
              refine GG.aload_n C dX0_change_103 1 rfl ?_
              refine GG.bipush C dX0_change_104 bp_8 ?_
              obtain ⟨p20, hp20, hf⟩ := obd_some hf
              refine GG.c_X0_124 C rfl (gX0_none hp20) c1 ⟨Nat.le_of_ble_eq_true rfl, Nat.le_of_ble_eq_true rfl⟩ ⟨Nat.le_of_ble_eq_true rfl, Nat.le_of_ble_eq_true rfl⟩ (Nat.le_of_ble_eq_true rfl) dX0_change_106 ?_
              have hf := Option.some.inj hf
              subst hf
              exact GG.iret C E dX0_change_109
            · have hf := if_f hf c19
              refine GG.aload_n C dX0_change_85 0 rfl ?_
              refine GG.castS C (r := (RX8, TX8, 10)) c18 rfl q1115 dX0_change_86 ?_
              refine GG.astore C (lv' := [(4, .ref r7), (3, .ref r7), (0, .ref a0), (1, .int a1), (2, .int a2)]) dX0_change_89 (by decide) rfl ?_
              refine GG.aload_n C dX0_change_91 2 rfl ?_
              refine GG.aload C dX0_change_92 0 rfl ?_
              refine GG.gx_X0_233 C rfl c18 dX0_change_94 ?_
              obtain ⟨p21, hp21, hf⟩ := obd_some hf
              refine GG.c_X0_197 C rfl (gX0_gives hp21) c1 ⟨Nat.le_of_ble_eq_true rfl, Nat.le_of_ble_eq_true rfl⟩ ⟨Nat.le_of_ble_eq_true rfl, Nat.le_of_ble_eq_true rfl⟩ (Nat.le_of_ble_eq_true rfl) dX0_change_97 ?_
              refine GG.goto C (tgt := 109) dX0_change_100 (by decide) ?_
              have hf := Option.some.inj hf
              subst hf
              exact GG.iret C E dX0_change_109
          · have hf := if_f hf c18
            refine GG.if_eq C (tgt := 103) dX0_change_82 (by decide) (fun c22 => ?_) (fun c22 => ?_)
            · have hf := if_t hf c22
              refine GG.aload_n C dX0_change_103 1 rfl ?_
              refine GG.bipush C dX0_change_104 bp_8 ?_
              obtain ⟨p23, hp23, hf⟩ := obd_some hf
              refine GG.c_X0_124 C rfl (gX0_none hp23) c1 ⟨Nat.le_of_ble_eq_true rfl, Nat.le_of_ble_eq_true rfl⟩ ⟨Nat.le_of_ble_eq_true rfl, Nat.le_of_ble_eq_true rfl⟩ (Nat.le_of_ble_eq_true rfl) dX0_change_106 ?_
              have hf := Option.some.inj hf
              subst hf
              exact GG.iret C E dX0_change_109
            · have hf := if_f hf c22
              refine GG.aload_n C dX0_change_85 0 rfl ?_
              obtain ⟨c24, hf⟩ := gd_some hf
              refine GG.castS C (r := (RX8, TX8, 10)) c24 rfl q1115 dX0_change_86 ?_
              refine GG.astore C (lv' := [(4, .ref r7), (3, .ref r7), (0, .ref a0), (1, .int a1), (2, .int a2)]) dX0_change_89 (by decide) rfl ?_
              refine GG.aload_n C dX0_change_91 2 rfl ?_
              refine GG.aload C dX0_change_92 0 rfl ?_
              refine GG.gx_X0_233 C rfl c24 dX0_change_94 ?_
              obtain ⟨p25, hp25, hf⟩ := obd_some hf
              refine GG.c_X0_197 C rfl (gX0_gives hp25) c1 ⟨Nat.le_of_ble_eq_true rfl, Nat.le_of_ble_eq_true rfl⟩ ⟨Nat.le_of_ble_eq_true rfl, Nat.le_of_ble_eq_true rfl⟩ (Nat.le_of_ble_eq_true rfl) dX0_change_97 ?_
              refine GG.goto C (tgt := 109) dX0_change_100 (by decide) ?_
              have hf := Option.some.inj hf
              subst hf
              exact GG.iret C E dX0_change_109
        · have hf := if_f hf c16
          by_cases c26 : a2 = (nI 3)
          · have hf := if_t hf c26
            refine GG.tin C (k := 3) (off := 84) (tgt := 110) dX0_change_26 (by rw [c26]; rfl) (by decide) (by decide) rfl (by decide) ?_
            refine GG.aload_n C dX0_change_110 1 rfl ?_
            refine GG.aload_n C dX0_change_111 0 rfl ?_
            obtain ⟨c27, hf⟩ := gd_some hf
            refine GG.gx_X0_236 C rfl c27 dX0_change_112 ?_
            obtain ⟨p28, hp28, hf⟩ := obd_some hf
            refine GG.c_X0_197 C rfl (gX0_gives hp28) c1 ⟨Nat.le_of_ble_eq_true rfl, Nat.le_of_ble_eq_true rfl⟩ ⟨Nat.le_of_ble_eq_true rfl, Nat.le_of_ble_eq_true rfl⟩ (Nat.le_of_ble_eq_true rfl) dX0_change_115 ?_
            have hf := Option.some.inj hf
            subst hf
            exact GG.iret C E dX0_change_118
          · have hf := if_f hf c26
            by_cases c29 : a2 = (nI 4)
            · have hf := if_t hf c29
              refine GG.tin C (k := 4) (off := 93) (tgt := 119) dX0_change_26 (by rw [c29]; rfl) (by decide) (by decide) rfl (by decide) ?_
              refine GG.aload_n C dX0_change_119 1 rfl ?_
              refine GG.aload_n C dX0_change_120 0 rfl ?_
              obtain ⟨c30, hf⟩ := gd_some hf
              refine GG.gx_X0_239 C rfl c30 dX0_change_121 ?_
              obtain ⟨p31, hp31, hf⟩ := obd_some hf
              refine GG.c_X0_197 C rfl (gX0_gives hp31) c1 ⟨Nat.le_of_ble_eq_true rfl, Nat.le_of_ble_eq_true rfl⟩ ⟨Nat.le_of_ble_eq_true rfl, Nat.le_of_ble_eq_true rfl⟩ (Nat.le_of_ble_eq_true rfl) dX0_change_124 ?_
              have hf := Option.some.inj hf
              subst hf
              exact GG.iret C E dX0_change_127
            · have hf := if_f hf c29
              refine GG.tout C (tgt := 128) dX0_change_26 (by have qc8 := lv_neT c8 (a := 0) rfl; have qc12 := lv_neT c12 (a := 1) rfl; have qc16 := lv_neT c16 (a := 2) rfl; have qc26 := lv_neT c26 (a := 3) rfl; have qc29 := lv_neT c29 (a := 4) rfl; omega) (by decide) ?_
              refine GG.aload_n C dX0_change_128 1 rfl ?_
              refine GG.iconst C dX0_change_129 ic_5 ?_
              obtain ⟨p32, hp32, hf⟩ := obd_some hf
              refine GG.c_X0_124 C rfl (gX0_none hp32) c1 ⟨Nat.le_of_ble_eq_true rfl, Nat.le_of_ble_eq_true rfl⟩ ⟨Nat.le_of_ble_eq_true rfl, Nat.le_of_ble_eq_true rfl⟩ (Nat.le_of_ble_eq_true rfl) dX0_change_130 ?_
              have hf := Option.some.inj hf
              subst hf
              exact GG.iret C E dX0_change_133
  · have hf := if_t hf c3
    refine GG.aload_n C dX0_change_9 0 rfl ?_
    refine GG.iconst C dX0_change_10 ic_2 ?_
    obtain ⟨p33, hp33, hf⟩ := obd_some hf
    refine GG.c_X0_124 C rfl (gX0_none hp33) c1 ⟨Nat.le_of_ble_eq_true rfl, Nat.le_of_ble_eq_true rfl⟩ ⟨Nat.le_of_ble_eq_true rfl, Nat.le_of_ble_eq_true rfl⟩ (Nat.le_of_ble_eq_true rfl) dX0_change_11 ?_
    have hf := Option.some.inj hf
    subst hf
    exact GG.iret C E dX0_change_14
theorem gX0_hung_4 {K : gK} {X : gX} {S : Option MS} {M : XS} (C : gC K X cX0_hung 4 yX0_hung (some Jvm.ClassFile.FieldType.int) rX0_hung)  {o : Int32} (E : gE K X (some (.int o)) M S rX0_hung.cells rX0_hung.slots)   :
    ∀ (n : Nat) (a0 : Nat) (a1 : Int32) (a2 : Int32) (a3 : Int32), fX0_hung_4 M n a0 a1 a2 a3 = some o → GG K X 4 0 0 M S 4 [(0, .ref a0), (1, .int a1), (2, .int a2), (3, .int a3)] [] := by
  intro n
  induction n with
  | zero => intro a0 a1 a2 a3 hf; cases hf
  | succ n ih =>
    intro a0 a1 a2 a3 hf
    rw [fX0_hung_4] at hf
    refine GG.iload_n C dX0_hung_4 3 rfl ?_
    refine GG.aload_n C dX0_hung_5 0 rfl ?_
    obtain ⟨c1, hf⟩ := gd_some hf
    obtain ⟨r2, hr2, hf⟩ := obd_some hf
    refine GG.gx_X0_37 C rfl c1 hr2 dX0_hung_6 ?_
    obtain ⟨c3, hf⟩ := gd_some hf
    refine GG.gx_X0_149 C rfl c3 dX0_hung_9 ?_
    refine GG.icmp_ge C (tgt := 47) dX0_hung_12 (by decide) (fun c4 => ?_) (fun c4 => ?_)
    · have hf := if_t hf c4
      refine GG.iload_n C dX0_hung_47 2 rfl ?_
      have hf := Option.some.inj hf
      subst hf
      exact GG.iret C E dX0_hung_48
    · have hf := if_f hf c4
      refine GG.aload_n C dX0_hung_15 0 rfl ?_
      obtain ⟨r5, hr5, hf⟩ := obd_some hf
      refine GG.gx_X0_37 C rfl c1 hr5 dX0_hung_16 ?_
      obtain ⟨c6, hf⟩ := gd_some hf
      obtain ⟨r7, hr7, hf⟩ := obd_some hf
      refine GG.gx_X0_208 C rfl c6 hr7 dX0_hung_19 ?_
      refine GG.iload_n C dX0_hung_22 3 rfl ?_
      obtain ⟨r8, hr8, hf⟩ := obd_some hf
      refine GG.aald C 0 hr8 (by decide) dX0_hung_23 ?_
      obtain ⟨c9, hf⟩ := gd_some hf
      refine GG.gx_X0_242 C rfl c9 dX0_hung_24 ?_
      refine GG.iload_n C dX0_hung_27 1 rfl ?_
      refine GG.ishr C dX0_hung_28 ?_
      refine GG.iconst C dX0_hung_29 ic_1 ?_
      refine GG.iand C dX0_hung_30 ?_
      refine GG.iconst C dX0_hung_31 ic_1 ?_
      refine GG.icmp_ne C (tgt := 41) dX0_hung_32 (by decide) (fun c10 => ?_) (fun c10 => ?_)
      · have hf := if_f hf c10
        refine GG.iinc C (v := (a3 + (nI 1))) (lv' := [(3, .int (a3 + (nI 1))), (0, .ref a0), (1, .int a1), (2, .int a2)]) dX0_hung_41 3 rfl (congrArg (a3 + ·) ic_1) (by decide) rfl ?_
        refine GG.goto C (tgt := 4) dX0_hung_44 (by decide) ?_
        refine GG.sub [1, 2, 3, 0] rfl ?_
        exact ih _ _ _ _ hf
      · have hf := if_t hf c10
        refine GG.iload_n C dX0_hung_35 2 rfl ?_
        refine GG.iconst C dX0_hung_36 ic_1 ?_
        refine GG.iload_n C dX0_hung_37 3 rfl ?_
        refine GG.ishl C dX0_hung_38 ?_
        refine GG.ior C dX0_hung_39 ?_
        refine GG.topi fun x11 hx11 => ?_
        have hf := ltb_s hx11 hf
        refine GG.istore_n C (lv' := [(2, .int x11), (0, .ref a0), (1, .int a1), (3, .int a3)]) dX0_hung_40 (by decide) rfl ?_
        refine GG.iinc C (v := (a3 + (nI 1))) (lv' := [(3, .int (a3 + (nI 1))), (2, .int x11), (0, .ref a0), (1, .int a1)]) dX0_hung_41 3 rfl (congrArg (a3 + ·) ic_1) (by decide) rfl ?_
        refine GG.goto C (tgt := 4) dX0_hung_44 (by decide) ?_
        refine GG.sub [2, 3, 1, 0] rfl ?_
        exact ih _ _ _ _ hf
theorem gX0_hung {K : gK} {S : Option MS}  {M : XS} {a0 : Nat} {a1 : Int32} {o : Int32} (hf : fX0_hung M a0 a1 = some o) : gMet K yX0_hung cX0_hung 4 (some Jvm.ClassFile.FieldType.int) rX0_hung [(.ref a0), (.int a1)] M S (some (.int o)) M S := by
  refine gMet.of pn_X0 (Nat.le_of_ble_eq_true rfl) fun X C E => ?_
  unfold fX0_hung at hf
  show GG K X 4 0 0 M S 0 [(0, .ref a0), (1, .int a1)] []
  refine GG.iconst C dX0_hung_0 ic_0 ?_
  refine GG.istore_n C (lv' := [(2, .int (nI 0)), (0, .ref a0), (1, .int a1)]) dX0_hung_1 (by decide) rfl ?_
  refine GG.iconst C dX0_hung_2 ic_0 ?_
  refine GG.istore_n C (lv' := [(3, .int (nI 0)), (2, .int (nI 0)), (0, .ref a0), (1, .int a1)]) dX0_hung_3 (by decide) rfl ?_
  refine GG.sub [2, 3, 1, 0] rfl ?_
  exact gX0_hung_4 C E  FU _ _ _ _ hf
theorem gX0_hangs {K : gK} {S : Option MS}  {M : XS} {a0 : Nat} {a1 : Int32} {a2 : Int32} {o : (Int32 × XS)} (hf : fX0_hangs M a0 a1 a2 = some o) : gMet K yX0_hangs cX0_hangs 4 (some Jvm.ClassFile.FieldType.int) rX0_hangs [(.ref a0), (.int a1), (.int a2)] M S (some (.int o.1)) o.2 S := by
  refine gMet.of pn_X0 (Nat.le_of_ble_eq_true rfl) fun X C E => ?_
  unfold fX0_hangs at hf
  show GG K X 4 0 0 M S 0 [(0, .ref a0), (1, .int a1), (2, .int a2)] []
  refine GG.aload_n C dX0_hangs_0 0 rfl ?_
  refine GG.iload_n C dX0_hangs_1 1 rfl ?_
  refine GG.i2l C dX0_hangs_2 ?_
  obtain ⟨c1, hf⟩ := gd_some hf
  obtain ⟨v2, hv2, hf⟩ := obd_some hf
  refine GG.c_X0_224 C rfl (gX0_isChange hv2) c1 ⟨Nat.le_of_ble_eq_true rfl, Nat.le_of_ble_eq_true rfl⟩ ⟨Nat.le_of_ble_eq_true rfl, Nat.le_of_ble_eq_true rfl⟩ (Nat.le_of_ble_eq_true rfl) dX0_hangs_3 ?_
  refine GG.if_ne C (tgt := 15) dX0_hangs_6 (by decide) (fun c3 => ?_) (fun c3 => ?_)
  · have hf := if_f hf c3
    refine GG.aload_n C dX0_hangs_15 0 rfl ?_
    obtain ⟨r4, hr4, hf⟩ := obd_some hf
    refine GG.gx_X0_37 C rfl c1 hr4 dX0_hangs_16 ?_
    obtain ⟨c5, hf⟩ := gd_some hf
    obtain ⟨r6, hr6, hf⟩ := obd_some hf
    refine GG.gx_X0_208 C rfl c5 hr6 dX0_hangs_19 ?_
    refine GG.iload_n C dX0_hangs_22 1 rfl ?_
    obtain ⟨r7, hr7, hf⟩ := obd_some hf
    refine GG.aald C 0 hr7 (by decide) dX0_hangs_23 ?_
    refine GG.astore_n C (lv' := [(3, .ref r7), (0, .ref a0), (1, .int a1), (2, .int a2)]) dX0_hangs_24 (by decide) rfl ?_
    refine GG.iload_n C dX0_hangs_25 3 rfl ?_
    refine GG.if_lt C (tgt := 34) dX0_hangs_26 (by decide) (fun c8 => ?_) (fun c8 => ?_)
    · have hf := if_t hf c8
      refine GG.aload_n C dX0_hangs_34 1 rfl ?_
      refine GG.iconst C dX0_hangs_35 ic_5 ?_
      obtain ⟨p9, hp9, hf⟩ := obd_some hf
      refine GG.c_X0_124 C rfl (gX0_none hp9) c1 ⟨Nat.le_of_ble_eq_true rfl, Nat.le_of_ble_eq_true rfl⟩ ⟨Nat.le_of_ble_eq_true rfl, Nat.le_of_ble_eq_true rfl⟩ (Nat.le_of_ble_eq_true rfl) dX0_hangs_36 ?_
      refine GG.goto C (tgt := 74) dX0_hangs_39 (by decide) ?_
      have hf := Option.some.inj hf
      subst hf
      exact GG.iret C E dX0_hangs_74
    · have hf := if_f hf c8
      refine GG.iload_n C dX0_hangs_29 3 rfl ?_
      refine GG.iconst C dX0_hangs_30 ic_2 ?_
      refine GG.icmp_le C (tgt := 42) dX0_hangs_31 (by decide) (fun c10 => ?_) (fun c10 => ?_)
      · have hf := if_t hf c10
        refine GG.aload_n C dX0_hangs_42 1 rfl ?_
        refine GG.iload_n C dX0_hangs_43 3 rfl ?_
        refine GG.if_ne C (tgt := 54) dX0_hangs_44 (by decide) (fun c11 => ?_) (fun c11 => ?_)
        · have hf := if_f hf c11
          refine GG.iload_n C dX0_hangs_54 3 rfl ?_
          refine GG.iconst C dX0_hangs_55 ic_1 ?_
          refine GG.icmp_ne C (tgt := 66) dX0_hangs_56 (by decide) (fun c12 => ?_) (fun c12 => ?_)
          · have hf := if_f hf c12
            refine GG.aload_n C dX0_hangs_66 1 rfl ?_
            refine GG.iload_n C dX0_hangs_67 2 rfl ?_
            obtain ⟨v13, hv13, hf⟩ := obd_some hf
            refine GG.c_X0_248 C rfl (gX0_hung hv13) c1 ⟨Nat.le_of_ble_eq_true rfl, Nat.le_of_ble_eq_true rfl⟩ ⟨Nat.le_of_ble_eq_true rfl, Nat.le_of_ble_eq_true rfl⟩ (Nat.le_of_ble_eq_true rfl) dX0_hangs_68 ?_
            obtain ⟨p14, hp14, hf⟩ := obd_some hf
            refine GG.c_X0_197 C rfl (gX0_gives hp14) c1 ⟨Nat.le_of_ble_eq_true rfl, Nat.le_of_ble_eq_true rfl⟩ ⟨Nat.le_of_ble_eq_true rfl, Nat.le_of_ble_eq_true rfl⟩ (Nat.le_of_ble_eq_true rfl) dX0_hangs_71 ?_
            have hf := Option.some.inj hf
            subst hf
            exact GG.iret C E dX0_hangs_74
          · have hf := if_t hf c12
            refine GG.aload_n C dX0_hangs_59 0 rfl ?_
            obtain ⟨c15, hf⟩ := gd_some hf
            refine GG.gx_X0_242 C rfl c15 dX0_hangs_60 ?_
            refine GG.goto C (tgt := 71) dX0_hangs_63 (by decide) ?_
            obtain ⟨p16, hp16, hf⟩ := obd_some hf
            refine GG.c_X0_197 C rfl (gX0_gives hp16) c1 ⟨Nat.le_of_ble_eq_true rfl, Nat.le_of_ble_eq_true rfl⟩ ⟨Nat.le_of_ble_eq_true rfl, Nat.le_of_ble_eq_true rfl⟩ (Nat.le_of_ble_eq_true rfl) dX0_hangs_71 ?_
            have hf := Option.some.inj hf
            subst hf
            exact GG.iret C E dX0_hangs_74
        · have hf := if_t hf c11
          refine GG.aload_n C dX0_hangs_47 0 rfl ?_
          obtain ⟨c17, hf⟩ := gd_some hf
          refine GG.gx_X0_245 C rfl c17 dX0_hangs_48 ?_
          refine GG.goto C (tgt := 71) dX0_hangs_51 (by decide) ?_
          obtain ⟨p18, hp18, hf⟩ := obd_some hf
          refine GG.c_X0_197 C rfl (gX0_gives hp18) c1 ⟨Nat.le_of_ble_eq_true rfl, Nat.le_of_ble_eq_true rfl⟩ ⟨Nat.le_of_ble_eq_true rfl, Nat.le_of_ble_eq_true rfl⟩ (Nat.le_of_ble_eq_true rfl) dX0_hangs_71 ?_
          have hf := Option.some.inj hf
          subst hf
          exact GG.iret C E dX0_hangs_74
      · have hf := if_f hf c10
        refine GG.aload_n C dX0_hangs_34 1 rfl ?_
        refine GG.iconst C dX0_hangs_35 ic_5 ?_
        obtain ⟨p19, hp19, hf⟩ := obd_some hf
        refine GG.c_X0_124 C rfl (gX0_none hp19) c1 ⟨Nat.le_of_ble_eq_true rfl, Nat.le_of_ble_eq_true rfl⟩ ⟨Nat.le_of_ble_eq_true rfl, Nat.le_of_ble_eq_true rfl⟩ (Nat.le_of_ble_eq_true rfl) dX0_hangs_36 ?_
        refine GG.goto C (tgt := 74) dX0_hangs_39 (by decide) ?_
        have hf := Option.some.inj hf
        subst hf
        exact GG.iret C E dX0_hangs_74
  · have hf := if_t hf c3
    refine GG.aload_n C dX0_hangs_9 0 rfl ?_
    refine GG.iconst C dX0_hangs_10 ic_2 ?_
    obtain ⟨p20, hp20, hf⟩ := obd_some hf
    refine GG.c_X0_124 C rfl (gX0_none hp20) c1 ⟨Nat.le_of_ble_eq_true rfl, Nat.le_of_ble_eq_true rfl⟩ ⟨Nat.le_of_ble_eq_true rfl, Nat.le_of_ble_eq_true rfl⟩ (Nat.le_of_ble_eq_true rfl) dX0_hangs_11 ?_
    have hf := Option.some.inj hf
    subst hf
    exact GG.iret C E dX0_hangs_14
theorem gX4_all {K : gK} {S : Option MS}  {M : XS} {a0 : Nat} {o : Int32} (hf : fX4_all M a0 = some o) : gMet K yX4_all cX4_all 1 (some Jvm.ClassFile.FieldType.int) rX4_all [(.ref a0)] M S (some (.int o)) M S := by
  refine gMet.of pn_X4 (Nat.le_of_ble_eq_true rfl) fun X C E => ?_
  unfold fX4_all at hf
  show GG K X 1 0 0 M S 0 [(0, .ref a0)] []
  refine GG.iconst C dX4_all_0 ic_1 ?_
  refine GG.aload_n C dX4_all_1 0 rfl ?_
  obtain ⟨c1, hf⟩ := gd_some hf
  refine GG.gx_X4_21 C rfl c1 dX4_all_2 ?_
  refine GG.ishl C dX4_all_5 ?_
  refine GG.iconst C dX4_all_6 ic_1 ?_
  refine GG.isub C dX4_all_7 ?_
  have hf := Option.some.inj hf
  subst hf
  exact GG.iret C E dX4_all_8
theorem gX0_isSet {K : gK} {S : Option MS}  {M : XS} {a0 : Nat} {a1 : Int32} {o : Int32} (hf : fX0_isSet M a0 a1 = some o) : gMet K yX0_isSet cX0_isSet 2 (some Jvm.ClassFile.FieldType.boolean) rX0_isSet [(.ref a0), (.int a1)] M S (some (.int o)) M S := by
  refine gMet.of pn_X0 (Nat.le_of_ble_eq_true rfl) fun X C E => ?_
  unfold fX0_isSet at hf
  show GG K X 2 0 0 M S 0 [(0, .ref a0), (1, .int a1)] []
  refine GG.iload_n C dX0_isSet_0 1 rfl ?_
  refine GG.if_lt C (tgt := 19) dX0_isSet_1 (by decide) (fun c1 => ?_) (fun c1 => ?_)
  · have hf := if_t hf c1
    refine GG.iconst C dX0_isSet_19 ic_0 ?_
    have hf := Option.some.inj hf
    subst hf
    exact GG.zret C zb_0 E dX0_isSet_20
  · have hf := if_f hf c1
    refine GG.iload_n C dX0_isSet_4 1 rfl ?_
    refine GG.aload_n C dX0_isSet_5 0 rfl ?_
    obtain ⟨c2, hf⟩ := gd_some hf
    obtain ⟨r3, hr3, hf⟩ := obd_some hf
    refine GG.gx_X0_37 C rfl c2 hr3 dX0_isSet_6 ?_
    obtain ⟨c4, hf⟩ := gd_some hf
    obtain ⟨v5, hv5, hf⟩ := obd_some hf
    refine GG.c_X0_155 C rfl (gX4_all hv5) c4 ⟨Nat.le_of_ble_eq_true rfl, Nat.le_of_ble_eq_true rfl⟩ ⟨Nat.le_of_ble_eq_true rfl, Nat.le_of_ble_eq_true rfl⟩ (Nat.le_of_ble_eq_true rfl) dX0_isSet_9 ?_
    refine GG.icmp_gt C (tgt := 19) dX0_isSet_12 (by decide) (fun c6 => ?_) (fun c6 => ?_)
    · have hf := if_t hf c6
      refine GG.iconst C dX0_isSet_19 ic_0 ?_
      have hf := Option.some.inj hf
      subst hf
      exact GG.zret C zb_0 E dX0_isSet_20
    · have hf := if_f hf c6
      refine GG.iconst C dX0_isSet_15 ic_1 ?_
      refine GG.goto C (tgt := 20) dX0_isSet_16 (by decide) ?_
      have hf := Option.some.inj hf
      subst hf
      exact GG.zret C zb_1 E dX0_isSet_20
theorem gX4_holds_2 {K : gK} {X : gX} {S : Option MS} {M : XS} (C : gC K X cX4_holds 3 yX4_holds (some Jvm.ClassFile.FieldType.boolean) rX4_holds)  {o : Int32} (E : gE K X (some (.int o)) M S rX4_holds.cells rX4_holds.slots)   :
    ∀ (n : Nat) (a0 : Nat) (a1 : Int32) (a2 : Int32), fX4_holds_2 M n a0 a1 a2 = some o → GG K X 3 0 0 M S 2 [(0, .ref a0), (1, .int a1), (2, .int a2)] [] := by
  intro n
  induction n with
  | zero => intro a0 a1 a2 hf; cases hf
  | succ n ih =>
    intro a0 a1 a2 hf
    rw [fX4_holds_2] at hf
    refine GG.iload_n C dX4_holds_2 2 rfl ?_
    refine GG.aload_n C dX4_holds_3 0 rfl ?_
    obtain ⟨c1, hf⟩ := gd_some hf
    refine GG.gx_X4_21 C rfl c1 dX4_holds_4 ?_
    refine GG.icmp_ge C (tgt := 43) dX4_holds_7 (by decide) (fun c2 => ?_) (fun c2 => ?_)
    · have hf := if_t hf c2
      refine GG.iconst C dX4_holds_43 ic_1 ?_
      have hf := Option.some.inj hf
      subst hf
      exact GG.zret C zb_1 E dX4_holds_44
    · have hf := if_f hf c2
      refine GG.iload_n C dX4_holds_10 1 rfl ?_
      refine GG.iload_n C dX4_holds_11 2 rfl ?_
      refine GG.ishr C dX4_holds_12 ?_
      refine GG.iconst C dX4_holds_13 ic_1 ?_
      refine GG.iand C dX4_holds_14 ?_
      refine GG.iconst C dX4_holds_15 ic_1 ?_
      refine GG.icmp_ne C (tgt := 37) dX4_holds_16 (by decide) (fun c3 => ?_) (fun c3 => ?_)
      · have hf := if_f hf c3
        refine GG.iinc C (v := (a2 + (nI 1))) (lv' := [(2, .int (a2 + (nI 1))), (0, .ref a0), (1, .int a1)]) dX4_holds_37 2 rfl (congrArg (a2 + ·) ic_1) (by decide) rfl ?_
        refine GG.goto C (tgt := 2) dX4_holds_40 (by decide) ?_
        refine GG.sub [1, 2, 0] rfl ?_
        exact ih _ _ _ hf
      · have hf := if_t hf c3
        refine GG.aload_n C dX4_holds_19 0 rfl ?_
        obtain ⟨r4, hr4, hf⟩ := obd_some hf
        refine GG.gx_X4_11 C rfl c1 hr4 dX4_holds_20 ?_
        refine GG.iload_n C dX4_holds_23 2 rfl ?_
        obtain ⟨r5, hr5, hf⟩ := obd_some hf
        refine GG.aald C 0 hr5 (by decide) dX4_holds_24 ?_
        obtain ⟨c6, hf⟩ := gd_some hf
        refine GG.gx_X4_35 C rfl c6 dX4_holds_25 ?_
        refine GG.iload_n C dX4_holds_28 1 rfl ?_
        refine GG.iconst C dX4_holds_29 ic_m1 ?_
        refine GG.ixor C dX4_holds_30 ?_
        refine GG.iand C dX4_holds_31 ?_
        refine GG.if_eq C (tgt := 37) dX4_holds_32 (by decide) (fun c7 => ?_) (fun c7 => ?_)
        · have hf := if_t hf c7
          refine GG.iinc C (v := (a2 + (nI 1))) (lv' := [(2, .int (a2 + (nI 1))), (0, .ref a0), (1, .int a1)]) dX4_holds_37 2 rfl (congrArg (a2 + ·) ic_1) (by decide) rfl ?_
          refine GG.goto C (tgt := 2) dX4_holds_40 (by decide) ?_
          refine GG.sub [1, 2, 0] rfl ?_
          exact ih _ _ _ hf
        · have hf := if_f hf c7
          refine GG.iconst C dX4_holds_35 ic_0 ?_
          have hf := Option.some.inj hf
          subst hf
          exact GG.zret C zb_0 E dX4_holds_36
theorem gX4_holds {K : gK} {S : Option MS}  {M : XS} {a0 : Nat} {a1 : Int32} {o : Int32} (hf : fX4_holds M a0 a1 = some o) : gMet K yX4_holds cX4_holds 3 (some Jvm.ClassFile.FieldType.boolean) rX4_holds [(.ref a0), (.int a1)] M S (some (.int o)) M S := by
  refine gMet.of pn_X4 (Nat.le_of_ble_eq_true rfl) fun X C E => ?_
  unfold fX4_holds at hf
  show GG K X 3 0 0 M S 0 [(0, .ref a0), (1, .int a1)] []
  refine GG.iconst C dX4_holds_0 ic_0 ?_
  refine GG.istore_n C (lv' := [(2, .int (nI 0)), (0, .ref a0), (1, .int a1)]) dX4_holds_1 (by decide) rfl ?_
  refine GG.sub [1, 2, 0] rfl ?_
  exact gX4_holds_2 C E  FU _ _ _ hf
theorem gX0_holds {K : gK} {S : Option MS}  {M : XS} {a0 : Nat} {a1 : Int32} {o : (Int32 × XS)} (hf : fX0_holds M a0 a1 = some o) : gMet K yX0_holds cX0_holds 2 (some Jvm.ClassFile.FieldType.int) rX0_holds [(.ref a0), (.int a1)] M S (some (.int o.1)) o.2 S := by
  refine gMet.of pn_X0 (Nat.le_of_ble_eq_true rfl) fun X C E => ?_
  unfold fX0_holds at hf
  show GG K X 2 0 0 M S 0 [(0, .ref a0), (1, .int a1)] []
  refine GG.aload_n C dX0_holds_0 0 rfl ?_
  refine GG.iload_n C dX0_holds_1 1 rfl ?_
  obtain ⟨c1, hf⟩ := gd_some hf
  obtain ⟨v2, hv2, hf⟩ := obd_some hf
  refine GG.c_X0_251 C rfl (gX0_isSet hv2) c1 ⟨Nat.le_of_ble_eq_true rfl, Nat.le_of_ble_eq_true rfl⟩ ⟨Nat.le_of_ble_eq_true rfl, Nat.le_of_ble_eq_true rfl⟩ (Nat.le_of_ble_eq_true rfl) dX0_holds_2 ?_
  refine GG.if_eq C (tgt := 31) dX0_holds_5 (by decide) (fun c3 => ?_) (fun c3 => ?_)
  · have hf := if_t hf c3
    refine GG.aload_n C dX0_holds_31 0 rfl ?_
    refine GG.iconst C dX0_holds_32 ic_2 ?_
    obtain ⟨p4, hp4, hf⟩ := obd_some hf
    refine GG.c_X0_124 C rfl (gX0_none hp4) c1 ⟨Nat.le_of_ble_eq_true rfl, Nat.le_of_ble_eq_true rfl⟩ ⟨Nat.le_of_ble_eq_true rfl, Nat.le_of_ble_eq_true rfl⟩ (Nat.le_of_ble_eq_true rfl) dX0_holds_33 ?_
    have hf := Option.some.inj hf
    subst hf
    exact GG.iret C E dX0_holds_36
  · have hf := if_f hf c3
    refine GG.aload_n C dX0_holds_8 0 rfl ?_
    refine GG.aload_n C dX0_holds_9 0 rfl ?_
    obtain ⟨r5, hr5, hf⟩ := obd_some hf
    refine GG.gx_X0_37 C rfl c1 hr5 dX0_holds_10 ?_
    refine GG.iload_n C dX0_holds_13 1 rfl ?_
    obtain ⟨c6, hf⟩ := gd_some hf
    obtain ⟨v7, hv7, hf⟩ := obd_some hf
    refine GG.c_X0_254 C rfl (gX4_holds hv7) c6 ⟨Nat.le_of_ble_eq_true rfl, Nat.le_of_ble_eq_true rfl⟩ ⟨Nat.le_of_ble_eq_true rfl, Nat.le_of_ble_eq_true rfl⟩ (Nat.le_of_ble_eq_true rfl) dX0_holds_14 ?_
    refine GG.if_eq C (tgt := 24) dX0_holds_17 (by decide) (fun c8 => ?_) (fun c8 => ?_)
    · have hf := if_t hf c8
      refine GG.iconst C dX0_holds_24 ic_0 ?_
      obtain ⟨p9, hp9, hf⟩ := obd_some hf
      refine GG.c_X0_197 C rfl (gX0_gives hp9) c1 ⟨Nat.le_of_ble_eq_true rfl, Nat.le_of_ble_eq_true rfl⟩ ⟨Nat.le_of_ble_eq_true rfl, Nat.le_of_ble_eq_true rfl⟩ (Nat.le_of_ble_eq_true rfl) dX0_holds_25 ?_
      refine GG.goto C (tgt := 36) dX0_holds_28 (by decide) ?_
      have hf := Option.some.inj hf
      subst hf
      exact GG.iret C E dX0_holds_36
    · have hf := if_f hf c8
      refine GG.iconst C dX0_holds_20 ic_1 ?_
      refine GG.goto C (tgt := 25) dX0_holds_21 (by decide) ?_
      obtain ⟨p10, hp10, hf⟩ := obd_some hf
      refine GG.c_X0_197 C rfl (gX0_gives hp10) c1 ⟨Nat.le_of_ble_eq_true rfl, Nat.le_of_ble_eq_true rfl⟩ ⟨Nat.le_of_ble_eq_true rfl, Nat.le_of_ble_eq_true rfl⟩ (Nat.le_of_ble_eq_true rfl) dX0_holds_25 ?_
      refine GG.goto C (tgt := 36) dX0_holds_28 (by decide) ?_
      have hf := Option.some.inj hf
      subst hf
      exact GG.iret C E dX0_holds_36
theorem gX0_lacks_18 {K : gK} {X : gX} {S : Option MS} (C : gC K X cX0_lacks 4 yX0_lacks (some Jvm.ClassFile.FieldType.int) rX0_lacks)  {o : (Int32 × XS)} (E : gE K X (some (.int o.1)) o.2 S rX0_lacks.cells rX0_lacks.slots)   :
    ∀ (n : Nat) (M : XS) (a0 : Nat) (a1 : Int32) (a2 : Int32) (a3 : Int32), fX0_lacks_18  n M a0 a1 a2 a3 = some o → GG K X 4 0 0 M S 18 [(0, .ref a0), (1, .int a1), (2, .int a2), (3, .int a3)] [] := by
  intro n
  induction n with
  | zero => intro M a0 a1 a2 a3 hf; cases hf
  | succ n ih =>
    intro M a0 a1 a2 a3 hf
    rw [fX0_lacks_18] at hf
    refine GG.iload_n C dX0_lacks_18 3 rfl ?_
    refine GG.aload_n C dX0_lacks_19 0 rfl ?_
    obtain ⟨c5, hf⟩ := gd_some hf
    obtain ⟨r6, hr6, hf⟩ := obd_some hf
    refine GG.gx_X0_37 C rfl c5 hr6 dX0_lacks_20 ?_
    obtain ⟨c7, hf⟩ := gd_some hf
    refine GG.gx_X0_149 C rfl c7 dX0_lacks_23 ?_
    refine GG.icmp_ge C (tgt := 59) dX0_lacks_26 (by decide) (fun c8 => ?_) (fun c8 => ?_)
    · have hf := if_t hf c8
      refine GG.aload_n C dX0_lacks_59 0 rfl ?_
      refine GG.iload_n C dX0_lacks_60 2 rfl ?_
      refine GG.iload_n C dX0_lacks_61 1 rfl ?_
      refine GG.iconst C dX0_lacks_62 ic_m1 ?_
      refine GG.ixor C dX0_lacks_63 ?_
      refine GG.iand C dX0_lacks_64 ?_
      obtain ⟨p9, hp9, hf⟩ := obd_some hf
      refine GG.c_X0_197 C rfl (gX0_gives hp9) c5 ⟨Nat.le_of_ble_eq_true rfl, Nat.le_of_ble_eq_true rfl⟩ ⟨Nat.le_of_ble_eq_true rfl, Nat.le_of_ble_eq_true rfl⟩ (Nat.le_of_ble_eq_true rfl) dX0_lacks_65 ?_
      have hf := Option.some.inj hf
      subst hf
      exact GG.iret C E dX0_lacks_68
    · have hf := if_f hf c8
      refine GG.iload_n C dX0_lacks_29 1 rfl ?_
      refine GG.iload_n C dX0_lacks_30 3 rfl ?_
      refine GG.ishr C dX0_lacks_31 ?_
      refine GG.iconst C dX0_lacks_32 ic_1 ?_
      refine GG.iand C dX0_lacks_33 ?_
      refine GG.iconst C dX0_lacks_34 ic_1 ?_
      refine GG.icmp_ne C (tgt := 53) dX0_lacks_35 (by decide) (fun c10 => ?_) (fun c10 => ?_)
      · have hf := if_f hf c10
        refine GG.iinc C (v := (a3 + (nI 1))) (lv' := [(3, .int (a3 + (nI 1))), (0, .ref a0), (1, .int a1), (2, .int a2)]) dX0_lacks_53 3 rfl (congrArg (a3 + ·) ic_1) (by decide) rfl ?_
        refine GG.goto C (tgt := 18) dX0_lacks_56 (by decide) ?_
        refine GG.sub [1, 2, 3, 0] rfl ?_
        exact ih _ _ _ _ _ hf
      · have hf := if_t hf c10
        refine GG.iload_n C dX0_lacks_38 2 rfl ?_
        refine GG.aload_n C dX0_lacks_39 0 rfl ?_
        obtain ⟨r11, hr11, hf⟩ := obd_some hf
        refine GG.gx_X0_37 C rfl c5 hr11 dX0_lacks_40 ?_
        obtain ⟨c12, hf⟩ := gd_some hf
        obtain ⟨r13, hr13, hf⟩ := obd_some hf
        refine GG.gx_X0_208 C rfl c12 hr13 dX0_lacks_43 ?_
        refine GG.iload_n C dX0_lacks_46 3 rfl ?_
        obtain ⟨r14, hr14, hf⟩ := obd_some hf
        refine GG.aald C 0 hr14 (by decide) dX0_lacks_47 ?_
        obtain ⟨c15, hf⟩ := gd_some hf
        refine GG.gx_X0_242 C rfl c15 dX0_lacks_48 ?_
        refine GG.ior C dX0_lacks_51 ?_
        refine GG.topi fun x16 hx16 => ?_
        have hf := ltb_s hx16 hf
        refine GG.istore_n C (lv' := [(2, .int x16), (0, .ref a0), (1, .int a1), (3, .int a3)]) dX0_lacks_52 (by decide) rfl ?_
        refine GG.iinc C (v := (a3 + (nI 1))) (lv' := [(3, .int (a3 + (nI 1))), (2, .int x16), (0, .ref a0), (1, .int a1)]) dX0_lacks_53 3 rfl (congrArg (a3 + ·) ic_1) (by decide) rfl ?_
        refine GG.goto C (tgt := 18) dX0_lacks_56 (by decide) ?_
        refine GG.sub [2, 3, 1, 0] rfl ?_
        exact ih _ _ _ _ _ hf
theorem gX0_lacks {K : gK} {S : Option MS}  {M : XS} {a0 : Nat} {a1 : Int32} {o : (Int32 × XS)} (hf : fX0_lacks M a0 a1 = some o) : gMet K yX0_lacks cX0_lacks 4 (some Jvm.ClassFile.FieldType.int) rX0_lacks [(.ref a0), (.int a1)] M S (some (.int o.1)) o.2 S := by
  refine gMet.of pn_X0 (Nat.le_of_ble_eq_true rfl) fun X C E => ?_
  unfold fX0_lacks at hf
  show GG K X 4 0 0 M S 0 [(0, .ref a0), (1, .int a1)] []
  refine GG.aload_n C dX0_lacks_0 0 rfl ?_
  refine GG.iload_n C dX0_lacks_1 1 rfl ?_
  obtain ⟨c1, hf⟩ := gd_some hf
  obtain ⟨v2, hv2, hf⟩ := obd_some hf
  refine GG.c_X0_251 C rfl (gX0_isSet hv2) c1 ⟨Nat.le_of_ble_eq_true rfl, Nat.le_of_ble_eq_true rfl⟩ ⟨Nat.le_of_ble_eq_true rfl, Nat.le_of_ble_eq_true rfl⟩ (Nat.le_of_ble_eq_true rfl) dX0_lacks_2 ?_
  refine GG.if_ne C (tgt := 14) dX0_lacks_5 (by decide) (fun c3 => ?_) (fun c3 => ?_)
  · have hf := if_f hf c3
    refine GG.iconst C dX0_lacks_14 ic_0 ?_
    refine GG.istore_n C (lv' := [(2, .int (nI 0)), (0, .ref a0), (1, .int a1)]) dX0_lacks_15 (by decide) rfl ?_
    refine GG.iconst C dX0_lacks_16 ic_0 ?_
    refine GG.istore_n C (lv' := [(3, .int (nI 0)), (2, .int (nI 0)), (0, .ref a0), (1, .int a1)]) dX0_lacks_17 (by decide) rfl ?_
    refine GG.sub [2, 3, 1, 0] rfl ?_
    exact gX0_lacks_18 C E  FU _ _ _ _ _ hf
  · have hf := if_t hf c3
    refine GG.aload_n C dX0_lacks_8 0 rfl ?_
    refine GG.iconst C dX0_lacks_9 ic_2 ?_
    obtain ⟨p4, hp4, hf⟩ := obd_some hf
    refine GG.c_X0_124 C rfl (gX0_none hp4) c1 ⟨Nat.le_of_ble_eq_true rfl, Nat.le_of_ble_eq_true rfl⟩ ⟨Nat.le_of_ble_eq_true rfl, Nat.le_of_ble_eq_true rfl⟩ (Nat.le_of_ble_eq_true rfl) dX0_lacks_10 ?_
    have hf := Option.some.inj hf
    subst hf
    exact GG.iret C E dX0_lacks_13
theorem gX0_without {K : gK} {S : Option MS}  {M : XS} {a0 : Nat} {a1 : Int32} {a2 : Int32} {o : Int32} (hf : fX0_without M a0 a1 a2 = some o) : gMet K yX0_without cX0_without 3 (some Jvm.ClassFile.FieldType.int) rX0_without [(.ref a0), (.int a1), (.int a2)] M S (some (.int o)) M S := by
  refine gMet.of pn_X0 (Nat.le_of_ble_eq_true rfl) fun X C E => ?_
  unfold fX0_without at hf
  show GG K X 3 0 0 M S 0 [(0, .ref a0), (1, .int a1), (2, .int a2)] []
  refine GG.iload_n C dX0_without_0 1 rfl ?_
  refine GG.iconst C dX0_without_1 ic_1 ?_
  refine GG.iload_n C dX0_without_2 2 rfl ?_
  refine GG.ishl C dX0_without_3 ?_
  refine GG.aload_n C dX0_without_4 0 rfl ?_
  refine GG.iload_n C dX0_without_5 2 rfl ?_
  obtain ⟨c1, hf⟩ := gd_some hf
  obtain ⟨v2, hv2, hf⟩ := obd_some hf
  refine GG.c_X0_248 C rfl (gX0_hung hv2) c1 ⟨Nat.le_of_ble_eq_true rfl, Nat.le_of_ble_eq_true rfl⟩ ⟨Nat.le_of_ble_eq_true rfl, Nat.le_of_ble_eq_true rfl⟩ (Nat.le_of_ble_eq_true rfl) dX0_without_6 ?_
  refine GG.ior C dX0_without_9 ?_
  refine GG.iconst C dX0_without_10 ic_m1 ?_
  refine GG.ixor C dX0_without_11 ?_
  refine GG.iand C dX0_without_12 ?_
  have hf := Option.some.inj hf
  subst hf
  exact GG.iret C E dX0_without_13
theorem gX0_out {K : gK} {S : Option MS}  {M : XS} {a0 : Nat} {a1 : Int32} {a2 : Int32} {o : (Int32 × XS)} (hf : fX0_out M a0 a1 a2 = some o) : gMet K yX0_out cX0_out 3 (some Jvm.ClassFile.FieldType.int) rX0_out [(.ref a0), (.int a1), (.int a2)] M S (some (.int o.1)) o.2 S := by
  refine gMet.of pn_X0 (Nat.le_of_ble_eq_true rfl) fun X C E => ?_
  unfold fX0_out at hf
  show GG K X 3 0 0 M S 0 [(0, .ref a0), (1, .int a1), (2, .int a2)] []
  refine GG.aload_n C dX0_out_0 0 rfl ?_
  refine GG.iload_n C dX0_out_1 1 rfl ?_
  obtain ⟨c1, hf⟩ := gd_some hf
  obtain ⟨v2, hv2, hf⟩ := obd_some hf
  refine GG.c_X0_251 C rfl (gX0_isSet hv2) c1 ⟨Nat.le_of_ble_eq_true rfl, Nat.le_of_ble_eq_true rfl⟩ ⟨Nat.le_of_ble_eq_true rfl, Nat.le_of_ble_eq_true rfl⟩ (Nat.le_of_ble_eq_true rfl) dX0_out_2 ?_
  refine GG.if_eq C (tgt := 30) dX0_out_5 (by decide) (fun c3 => ?_) (fun c3 => ?_)
  · have hf := if_t hf c3
    refine GG.aload_n C dX0_out_30 0 rfl ?_
    refine GG.iconst C dX0_out_31 ic_2 ?_
    obtain ⟨p4, hp4, hf⟩ := obd_some hf
    refine GG.c_X0_124 C rfl (gX0_none hp4) c1 ⟨Nat.le_of_ble_eq_true rfl, Nat.le_of_ble_eq_true rfl⟩ ⟨Nat.le_of_ble_eq_true rfl, Nat.le_of_ble_eq_true rfl⟩ (Nat.le_of_ble_eq_true rfl) dX0_out_32 ?_
    have hf := Option.some.inj hf
    subst hf
    exact GG.iret C E dX0_out_35
  · have hf := if_f hf c3
    refine GG.aload_n C dX0_out_8 0 rfl ?_
    refine GG.iload_n C dX0_out_9 2 rfl ?_
    refine GG.i2l C dX0_out_10 ?_
    obtain ⟨v5, hv5, hf⟩ := obd_some hf
    refine GG.c_X0_224 C rfl (gX0_isChange hv5) c1 ⟨Nat.le_of_ble_eq_true rfl, Nat.le_of_ble_eq_true rfl⟩ ⟨Nat.le_of_ble_eq_true rfl, Nat.le_of_ble_eq_true rfl⟩ (Nat.le_of_ble_eq_true rfl) dX0_out_11 ?_
    refine GG.if_eq C (tgt := 30) dX0_out_14 (by decide) (fun c6 => ?_) (fun c6 => ?_)
    · have hf := if_t hf c6
      refine GG.aload_n C dX0_out_30 0 rfl ?_
      refine GG.iconst C dX0_out_31 ic_2 ?_
      obtain ⟨p7, hp7, hf⟩ := obd_some hf
      refine GG.c_X0_124 C rfl (gX0_none hp7) c1 ⟨Nat.le_of_ble_eq_true rfl, Nat.le_of_ble_eq_true rfl⟩ ⟨Nat.le_of_ble_eq_true rfl, Nat.le_of_ble_eq_true rfl⟩ (Nat.le_of_ble_eq_true rfl) dX0_out_32 ?_
      have hf := Option.some.inj hf
      subst hf
      exact GG.iret C E dX0_out_35
    · have hf := if_f hf c6
      refine GG.aload_n C dX0_out_17 0 rfl ?_
      refine GG.aload_n C dX0_out_18 0 rfl ?_
      refine GG.iload_n C dX0_out_19 1 rfl ?_
      refine GG.iload_n C dX0_out_20 2 rfl ?_
      obtain ⟨v8, hv8, hf⟩ := obd_some hf
      refine GG.c_X0_257 C rfl (gX0_without hv8) c1 ⟨Nat.le_of_ble_eq_true rfl, Nat.le_of_ble_eq_true rfl⟩ ⟨Nat.le_of_ble_eq_true rfl, Nat.le_of_ble_eq_true rfl⟩ (Nat.le_of_ble_eq_true rfl) dX0_out_21 ?_
      obtain ⟨p9, hp9, hf⟩ := obd_some hf
      refine GG.c_X0_197 C rfl (gX0_gives hp9) c1 ⟨Nat.le_of_ble_eq_true rfl, Nat.le_of_ble_eq_true rfl⟩ ⟨Nat.le_of_ble_eq_true rfl, Nat.le_of_ble_eq_true rfl⟩ (Nat.le_of_ble_eq_true rfl) dX0_out_24 ?_
      refine GG.goto C (tgt := 35) dX0_out_27 (by decide) ?_
      have hf := Option.some.inj hf
      subst hf
      exact GG.iret C E dX0_out_35
theorem gX0_pick {K : gK} {S : Option MS}  {M : XS} {a0 : Nat} {a1 : Int32} {a2 : Int32} {o : (Int32 × XS)} (hf : fX0_pick M a0 a1 a2 = some o) : gMet K yX0_pick cX0_pick 3 (some Jvm.ClassFile.FieldType.int) rX0_pick [(.ref a0), (.int a1), (.int a2)] M S (some (.int o.1)) o.2 S := by
  refine gMet.of pn_X0 (Nat.le_of_ble_eq_true rfl) fun X C E => ?_
  unfold fX0_pick at hf
  show GG K X 3 0 0 M S 0 [(0, .ref a0), (1, .int a1), (2, .int a2)] []
  refine GG.aload_n C dX0_pick_0 0 rfl ?_
  refine GG.iload_n C dX0_pick_1 1 rfl ?_
  obtain ⟨c1, hf⟩ := gd_some hf
  obtain ⟨v2, hv2, hf⟩ := obd_some hf
  refine GG.c_X0_251 C rfl (gX0_isSet hv2) c1 ⟨Nat.le_of_ble_eq_true rfl, Nat.le_of_ble_eq_true rfl⟩ ⟨Nat.le_of_ble_eq_true rfl, Nat.le_of_ble_eq_true rfl⟩ (Nat.le_of_ble_eq_true rfl) dX0_pick_2 ?_
  refine GG.if_eq C (tgt := 42) dX0_pick_5 (by decide) (fun c3 => ?_) (fun c3 => ?_)
  · have hf := if_t hf c3
    refine GG.aload_n C dX0_pick_42 0 rfl ?_
    refine GG.iconst C dX0_pick_43 ic_2 ?_
    obtain ⟨p4, hp4, hf⟩ := obd_some hf
    refine GG.c_X0_124 C rfl (gX0_none hp4) c1 ⟨Nat.le_of_ble_eq_true rfl, Nat.le_of_ble_eq_true rfl⟩ ⟨Nat.le_of_ble_eq_true rfl, Nat.le_of_ble_eq_true rfl⟩ (Nat.le_of_ble_eq_true rfl) dX0_pick_44 ?_
    have hf := Option.some.inj hf
    subst hf
    exact GG.iret C E dX0_pick_47
  · have hf := if_f hf c3
    refine GG.aload_n C dX0_pick_8 0 rfl ?_
    refine GG.iload_n C dX0_pick_9 2 rfl ?_
    refine GG.i2l C dX0_pick_10 ?_
    obtain ⟨v5, hv5, hf⟩ := obd_some hf
    refine GG.c_X0_224 C rfl (gX0_isChange hv5) c1 ⟨Nat.le_of_ble_eq_true rfl, Nat.le_of_ble_eq_true rfl⟩ ⟨Nat.le_of_ble_eq_true rfl, Nat.le_of_ble_eq_true rfl⟩ (Nat.le_of_ble_eq_true rfl) dX0_pick_11 ?_
    refine GG.if_eq C (tgt := 42) dX0_pick_14 (by decide) (fun c6 => ?_) (fun c6 => ?_)
    · have hf := if_t hf c6
      refine GG.aload_n C dX0_pick_42 0 rfl ?_
      refine GG.iconst C dX0_pick_43 ic_2 ?_
      obtain ⟨p7, hp7, hf⟩ := obd_some hf
      refine GG.c_X0_124 C rfl (gX0_none hp7) c1 ⟨Nat.le_of_ble_eq_true rfl, Nat.le_of_ble_eq_true rfl⟩ ⟨Nat.le_of_ble_eq_true rfl, Nat.le_of_ble_eq_true rfl⟩ (Nat.le_of_ble_eq_true rfl) dX0_pick_44 ?_
      have hf := Option.some.inj hf
      subst hf
      exact GG.iret C E dX0_pick_47
    · have hf := if_f hf c6
      refine GG.aload_n C dX0_pick_17 0 rfl ?_
      refine GG.iload_n C dX0_pick_18 1 rfl ?_
      refine GG.iconst C dX0_pick_19 ic_1 ?_
      refine GG.iload_n C dX0_pick_20 2 rfl ?_
      refine GG.ishl C dX0_pick_21 ?_
      refine GG.ior C dX0_pick_22 ?_
      refine GG.aload_n C dX0_pick_23 0 rfl ?_
      obtain ⟨r8, hr8, hf⟩ := obd_some hf
      refine GG.gx_X0_37 C rfl c1 hr8 dX0_pick_24 ?_
      obtain ⟨c9, hf⟩ := gd_some hf
      obtain ⟨r10, hr10, hf⟩ := obd_some hf
      refine GG.gx_X0_208 C rfl c9 hr10 dX0_pick_27 ?_
      refine GG.iload_n C dX0_pick_30 2 rfl ?_
      obtain ⟨r11, hr11, hf⟩ := obd_some hf
      refine GG.aald C 0 hr11 (by decide) dX0_pick_31 ?_
      obtain ⟨c12, hf⟩ := gd_some hf
      refine GG.gx_X0_242 C rfl c12 dX0_pick_32 ?_
      refine GG.ior C dX0_pick_35 ?_
      obtain ⟨p13, hp13, hf⟩ := obd_some hf
      refine GG.c_X0_197 C rfl (gX0_gives hp13) c1 ⟨Nat.le_of_ble_eq_true rfl, Nat.le_of_ble_eq_true rfl⟩ ⟨Nat.le_of_ble_eq_true rfl, Nat.le_of_ble_eq_true rfl⟩ (Nat.le_of_ble_eq_true rfl) dX0_pick_36 ?_
      refine GG.goto C (tgt := 47) dX0_pick_39 (by decide) ?_
      have hf := Option.some.inj hf
      subst hf
      exact GG.iret C E dX0_pick_47
theorem gX0_heaviest_6 {K : gK} {X : gX} {S : Option MS} (C : gC K X cX0_heaviest 5 yX0_heaviest (some Jvm.ClassFile.FieldType.int) rX0_heaviest)  {o : (Int32 × XS)} (E : gE K X (some (.int o.1)) o.2 S rX0_heaviest.cells rX0_heaviest.slots)   :
    ∀ (n : Nat) (M : XS) (a0 : Nat) (a1 : Int32) (a2 : Int32) (a3 : Int32), fX0_heaviest_6  n M a0 a1 a2 a3 = some o → GG K X 5 0 0 M S 6 [(0, .ref a0), (1, .int a1), (2, .int a2), (3, .int a3)] [] := by
  intro n
  induction n with
  | zero => intro M a0 a1 a2 a3 hf; cases hf
  | succ n ih =>
    intro M a0 a1 a2 a3 hf
    rw [fX0_heaviest_6] at hf
    refine GG.iload_n C dX0_heaviest_6 3 rfl ?_
    refine GG.aload_n C dX0_heaviest_7 0 rfl ?_
    obtain ⟨c1, hf⟩ := gd_some hf
    obtain ⟨r2, hr2, hf⟩ := obd_some hf
    refine GG.gx_X0_37 C rfl c1 hr2 dX0_heaviest_8 ?_
    obtain ⟨c3, hf⟩ := gd_some hf
    refine GG.gx_X0_149 C rfl c3 dX0_heaviest_11 ?_
    refine GG.icmp_ge C (tgt := 47) dX0_heaviest_14 (by decide) (fun c4 => ?_) (fun c4 => ?_)
    · have hf := if_t hf c4
      refine GG.iload_n C dX0_heaviest_47 1 rfl ?_
      refine GG.iconst C dX0_heaviest_48 ic_m1 ?_
      refine GG.icmp_ne C (tgt := 61) dX0_heaviest_49 (by decide) (fun c5 => ?_) (fun c5 => ?_)
      · have hf := if_f hf c5
        refine GG.aload_n C dX0_heaviest_61 0 rfl ?_
        refine GG.iload_n C dX0_heaviest_62 1 rfl ?_
        obtain ⟨p6, hp6, hf⟩ := obd_some hf
        refine GG.c_X0_197 C rfl (gX0_gives hp6) c1 ⟨Nat.le_of_ble_eq_true rfl, Nat.le_of_ble_eq_true rfl⟩ ⟨Nat.le_of_ble_eq_true rfl, Nat.le_of_ble_eq_true rfl⟩ (Nat.le_of_ble_eq_true rfl) dX0_heaviest_63 ?_
        have hf := Option.some.inj hf
        subst hf
        exact GG.iret C E dX0_heaviest_66
      · have hf := if_t hf c5
        refine GG.aload_n C dX0_heaviest_52 0 rfl ?_
        refine GG.bipush C dX0_heaviest_53 bp_8 ?_
        obtain ⟨p7, hp7, hf⟩ := obd_some hf
        refine GG.c_X0_124 C rfl (gX0_none hp7) c1 ⟨Nat.le_of_ble_eq_true rfl, Nat.le_of_ble_eq_true rfl⟩ ⟨Nat.le_of_ble_eq_true rfl, Nat.le_of_ble_eq_true rfl⟩ (Nat.le_of_ble_eq_true rfl) dX0_heaviest_55 ?_
        refine GG.goto C (tgt := 66) dX0_heaviest_58 (by decide) ?_
        have hf := Option.some.inj hf
        subst hf
        exact GG.iret C E dX0_heaviest_66
    · have hf := if_f hf c4
      refine GG.aload_n C dX0_heaviest_17 0 rfl ?_
      refine GG.iload_n C dX0_heaviest_18 3 rfl ?_
      obtain ⟨v8, hv8, hf⟩ := obd_some hf
      refine GG.c_X0_248 C rfl (gX0_hung hv8) c1 ⟨Nat.le_of_ble_eq_true rfl, Nat.le_of_ble_eq_true rfl⟩ ⟨Nat.le_of_ble_eq_true rfl, Nat.le_of_ble_eq_true rfl⟩ (Nat.le_of_ble_eq_true rfl) dX0_heaviest_19 ?_
      obtain ⟨v9, hv9, hf⟩ := obd_some hf
      refine GG.c_X0_219 C rfl (gJ12_bitCount hv9) ⟨Nat.le_of_ble_eq_true rfl, Nat.le_of_ble_eq_true rfl⟩ ⟨Nat.le_of_ble_eq_true rfl, Nat.le_of_ble_eq_true rfl⟩ (Nat.le_of_ble_eq_true rfl) dX0_heaviest_22 ?_
      refine GG.istore C (lv' := [(4, .int v9), (0, .ref a0), (1, .int a1), (2, .int a2), (3, .int a3)]) dX0_heaviest_25 (by decide) rfl ?_
      refine GG.iload C dX0_heaviest_27 0 rfl ?_
      refine GG.iload_n C dX0_heaviest_29 3 rfl ?_
      refine GG.icmp_gt C (tgt := 36) dX0_heaviest_30 (by decide) (fun c10 => ?_) (fun c10 => ?_)
      · have hf := if_t hf c10
        refine GG.iload C dX0_heaviest_36 0 rfl ?_
        refine GG.istore_n C (lv' := [(2, .int v9), (4, .int v9), (0, .ref a0), (1, .int a1), (3, .int a3)]) dX0_heaviest_38 (by decide) rfl ?_
        refine GG.iload_n C dX0_heaviest_39 4 rfl ?_
        refine GG.istore_n C (lv' := [(1, .int a3), (2, .int v9), (4, .int v9), (0, .ref a0), (3, .int a3)]) dX0_heaviest_40 (by decide) rfl ?_
        refine GG.iinc C (v := (a3 + (nI 1))) (lv' := [(3, .int (a3 + (nI 1))), (1, .int a3), (2, .int v9), (4, .int v9), (0, .ref a0)]) dX0_heaviest_41 4 rfl (congrArg (a3 + ·) ic_1) (by decide) rfl ?_
        refine GG.goto C (tgt := 6) dX0_heaviest_44 (by decide) ?_
        refine GG.sub [4, 1, 2, 0] rfl ?_
        exact ih _ _ _ _ _ hf
      · have hf := if_f hf c10
        refine GG.goto C (tgt := 41) dX0_heaviest_33 (by decide) ?_
        refine GG.iinc C (v := (a3 + (nI 1))) (lv' := [(3, .int (a3 + (nI 1))), (4, .int v9), (0, .ref a0), (1, .int a1), (2, .int a2)]) dX0_heaviest_41 4 rfl (congrArg (a3 + ·) ic_1) (by decide) rfl ?_
        refine GG.goto C (tgt := 6) dX0_heaviest_44 (by decide) ?_
        refine GG.sub [2, 3, 4, 0] rfl ?_
        exact ih _ _ _ _ _ hf
theorem gX0_heaviest {K : gK} {S : Option MS}  {M : XS} {a0 : Nat} {o : (Int32 × XS)} (hf : fX0_heaviest M a0 = some o) : gMet K yX0_heaviest cX0_heaviest 5 (some Jvm.ClassFile.FieldType.int) rX0_heaviest [(.ref a0)] M S (some (.int o.1)) o.2 S := by
  refine gMet.of pn_X0 (Nat.le_of_ble_eq_true rfl) fun X C E => ?_
  unfold fX0_heaviest at hf
  show GG K X 5 0 0 M S 0 [(0, .ref a0)] []
  refine GG.iconst C dX0_heaviest_0 ic_m1 ?_
  refine GG.istore_n C (lv' := [(1, .int (-1 : Int32)), (0, .ref a0)]) dX0_heaviest_1 (by decide) rfl ?_
  refine GG.iconst C dX0_heaviest_2 ic_m1 ?_
  refine GG.istore_n C (lv' := [(2, .int (-1 : Int32)), (1, .int (-1 : Int32)), (0, .ref a0)]) dX0_heaviest_3 (by decide) rfl ?_
  refine GG.iconst C dX0_heaviest_4 ic_0 ?_
  refine GG.istore_n C (lv' := [(3, .int (nI 0)), (2, .int (-1 : Int32)), (1, .int (-1 : Int32)), (0, .ref a0)]) dX0_heaviest_5 (by decide) rfl ?_
  refine GG.sub [3, 2, 1, 0] rfl ?_
  exact gX0_heaviest_6 C E  FU _ _ _ _ _ hf
theorem gX0_alone_4 {K : gK} {X : gX} {S : Option MS} (C : gC K X cX0_alone 3 yX0_alone (some Jvm.ClassFile.FieldType.int) rX0_alone)  {o : (Int32 × XS)} (E : gE K X (some (.int o.1)) o.2 S rX0_alone.cells rX0_alone.slots)   :
    ∀ (n : Nat) (M : XS) (a0 : Nat) (a1 : Int32) (a2 : Int32), fX0_alone_4  n M a0 a1 a2 = some o → GG K X 3 0 0 M S 4 [(0, .ref a0), (1, .int a1), (2, .int a2)] [] := by
  intro n
  induction n with
  | zero => intro M a0 a1 a2 hf; cases hf
  | succ n ih =>
    intro M a0 a1 a2 hf
    rw [fX0_alone_4] at hf
    refine GG.iload_n C dX0_alone_4 2 rfl ?_
    refine GG.aload_n C dX0_alone_5 0 rfl ?_
    obtain ⟨c1, hf⟩ := gd_some hf
    obtain ⟨r2, hr2, hf⟩ := obd_some hf
    refine GG.gx_X0_37 C rfl c1 hr2 dX0_alone_6 ?_
    obtain ⟨c3, hf⟩ := gd_some hf
    refine GG.gx_X0_149 C rfl c3 dX0_alone_9 ?_
    refine GG.icmp_ge C (tgt := 50) dX0_alone_12 (by decide) (fun c4 => ?_) (fun c4 => ?_)
    · have hf := if_t hf c4
      refine GG.aload_n C dX0_alone_50 0 rfl ?_
      refine GG.iload_n C dX0_alone_51 1 rfl ?_
      obtain ⟨p5, hp5, hf⟩ := obd_some hf
      refine GG.c_X0_197 C rfl (gX0_gives hp5) c1 ⟨Nat.le_of_ble_eq_true rfl, Nat.le_of_ble_eq_true rfl⟩ ⟨Nat.le_of_ble_eq_true rfl, Nat.le_of_ble_eq_true rfl⟩ (Nat.le_of_ble_eq_true rfl) dX0_alone_52 ?_
      have hf := Option.some.inj hf
      subst hf
      exact GG.iret C E dX0_alone_55
    · have hf := if_f hf c4
      refine GG.aload_n C dX0_alone_15 0 rfl ?_
      obtain ⟨r6, hr6, hf⟩ := obd_some hf
      refine GG.gx_X0_37 C rfl c1 hr6 dX0_alone_16 ?_
      obtain ⟨c7, hf⟩ := gd_some hf
      obtain ⟨r8, hr8, hf⟩ := obd_some hf
      refine GG.gx_X0_208 C rfl c7 hr8 dX0_alone_19 ?_
      refine GG.iload_n C dX0_alone_22 2 rfl ?_
      obtain ⟨r9, hr9, hf⟩ := obd_some hf
      refine GG.aald C 0 hr9 (by decide) dX0_alone_23 ?_
      obtain ⟨c10, hf⟩ := gd_some hf
      obtain ⟨v11, hv11, hf⟩ := obd_some hf
      refine GG.d_X0_212 C rfl hv11 ⟨Nat.le_of_ble_eq_true rfl, Nat.le_of_ble_eq_true rfl⟩ (Nat.le_of_ble_eq_true rfl) (Nat.le_of_ble_eq_true rfl) (Nat.le_of_ble_eq_true rfl) dX0_alone_24 ?_
      refine GG.if_ne C (tgt := 44) dX0_alone_27 (by decide) (fun c12 => ?_) (fun c12 => ?_)
      · have hf := if_f hf c12
        refine GG.iinc C (v := (a2 + (nI 1))) (lv' := [(2, .int (a2 + (nI 1))), (0, .ref a0), (1, .int a1)]) dX0_alone_44 2 rfl (congrArg (a2 + ·) ic_1) (by decide) rfl ?_
        refine GG.goto C (tgt := 4) dX0_alone_47 (by decide) ?_
        refine GG.sub [1, 2, 0] rfl ?_
        exact ih _ _ _ _ hf
      · have hf := if_t hf c12
        refine GG.aload_n C dX0_alone_30 0 rfl ?_
        refine GG.iload_n C dX0_alone_31 2 rfl ?_
        obtain ⟨v13, hv13, hf⟩ := obd_some hf
        refine GG.c_X0_248 C rfl (gX0_hung hv13) c1 ⟨Nat.le_of_ble_eq_true rfl, Nat.le_of_ble_eq_true rfl⟩ ⟨Nat.le_of_ble_eq_true rfl, Nat.le_of_ble_eq_true rfl⟩ (Nat.le_of_ble_eq_true rfl) dX0_alone_32 ?_
        refine GG.if_ne C (tgt := 44) dX0_alone_35 (by decide) (fun c14 => ?_) (fun c14 => ?_)
        · have hf := if_f hf c14
          refine GG.iinc C (v := (a2 + (nI 1))) (lv' := [(2, .int (a2 + (nI 1))), (0, .ref a0), (1, .int a1)]) dX0_alone_44 2 rfl (congrArg (a2 + ·) ic_1) (by decide) rfl ?_
          refine GG.goto C (tgt := 4) dX0_alone_47 (by decide) ?_
          refine GG.sub [1, 2, 0] rfl ?_
          exact ih _ _ _ _ hf
        · have hf := if_t hf c14
          refine GG.iload_n C dX0_alone_38 1 rfl ?_
          refine GG.iconst C dX0_alone_39 ic_1 ?_
          refine GG.iload_n C dX0_alone_40 2 rfl ?_
          refine GG.ishl C dX0_alone_41 ?_
          refine GG.ior C dX0_alone_42 ?_
          refine GG.topi fun x15 hx15 => ?_
          have hf := ltb_s hx15 hf
          refine GG.istore_n C (lv' := [(1, .int x15), (0, .ref a0), (2, .int a2)]) dX0_alone_43 (by decide) rfl ?_
          refine GG.iinc C (v := (a2 + (nI 1))) (lv' := [(2, .int (a2 + (nI 1))), (1, .int x15), (0, .ref a0)]) dX0_alone_44 2 rfl (congrArg (a2 + ·) ic_1) (by decide) rfl ?_
          refine GG.goto C (tgt := 4) dX0_alone_47 (by decide) ?_
          refine GG.sub [2, 1, 0] rfl ?_
          exact ih _ _ _ _ hf
theorem gX0_alone {K : gK} {S : Option MS}  {M : XS} {a0 : Nat} {o : (Int32 × XS)} (hf : fX0_alone M a0 = some o) : gMet K yX0_alone cX0_alone 3 (some Jvm.ClassFile.FieldType.int) rX0_alone [(.ref a0)] M S (some (.int o.1)) o.2 S := by
  refine gMet.of pn_X0 (Nat.le_of_ble_eq_true rfl) fun X C E => ?_
  unfold fX0_alone at hf
  show GG K X 3 0 0 M S 0 [(0, .ref a0)] []
  refine GG.iconst C dX0_alone_0 ic_0 ?_
  refine GG.istore_n C (lv' := [(1, .int (nI 0)), (0, .ref a0)]) dX0_alone_1 (by decide) rfl ?_
  refine GG.iconst C dX0_alone_2 ic_0 ?_
  refine GG.istore_n C (lv' := [(2, .int (nI 0)), (1, .int (nI 0)), (0, .ref a0)]) dX0_alone_3 (by decide) rfl ?_
  refine GG.sub [2, 1, 0] rfl ?_
  exact gX0_alone_4 C E  FU _ _ _ _ hf
theorem gX0_wrongSet {K : gK} {S : Option MS}  {M : XS} {a0 : Nat} {a1 : Int32} {o : Int32} (hf : fX0_wrongSet M a0 a1 = some o) : gMet K yX0_wrongSet cX0_wrongSet 2 (some Jvm.ClassFile.FieldType.int) rX0_wrongSet [(.ref a0), (.int a1)] M S (some (.int o)) M S := by
  refine gMet.of pn_X0 (Nat.le_of_ble_eq_true rfl) fun X C E => ?_
  unfold fX0_wrongSet at hf
  show GG K X 2 0 0 M S 0 [(0, .ref a0), (1, .int a1)] []
  refine GG.aload_n C dX0_wrongSet_0 0 rfl ?_
  refine GG.iload_n C dX0_wrongSet_1 1 rfl ?_
  obtain ⟨c1, hf⟩ := gd_some hf
  obtain ⟨v2, hv2, hf⟩ := obd_some hf
  refine GG.c_X0_251 C rfl (gX0_isSet hv2) c1 ⟨Nat.le_of_ble_eq_true rfl, Nat.le_of_ble_eq_true rfl⟩ ⟨Nat.le_of_ble_eq_true rfl, Nat.le_of_ble_eq_true rfl⟩ (Nat.le_of_ble_eq_true rfl) dX0_wrongSet_2 ?_
  refine GG.if_ne C (tgt := 12) dX0_wrongSet_5 (by decide) (fun c3 => ?_) (fun c3 => ?_)
  · have hf := if_f hf c3
    refine GG.aload_n C dX0_wrongSet_12 0 rfl ?_
    obtain ⟨r4, hr4, hf⟩ := obd_some hf
    refine GG.gx_X0_37 C rfl c1 hr4 dX0_wrongSet_13 ?_
    refine GG.iload_n C dX0_wrongSet_16 1 rfl ?_
    obtain ⟨c5, hf⟩ := gd_some hf
    obtain ⟨v6, hv6, hf⟩ := obd_some hf
    refine GG.c_X0_254 C rfl (gX4_holds hv6) c5 ⟨Nat.le_of_ble_eq_true rfl, Nat.le_of_ble_eq_true rfl⟩ ⟨Nat.le_of_ble_eq_true rfl, Nat.le_of_ble_eq_true rfl⟩ (Nat.le_of_ble_eq_true rfl) dX0_wrongSet_17 ?_
    refine GG.if_eq C (tgt := 27) dX0_wrongSet_20 (by decide) (fun c7 => ?_) (fun c7 => ?_)
    · have hf := if_t hf c7
      refine GG.bipush C dX0_wrongSet_27 bp_9 ?_
      have hf := Option.some.inj hf
      subst hf
      exact GG.iret C E dX0_wrongSet_29
    · have hf := if_f hf c7
      refine GG.iconst C dX0_wrongSet_23 ic_0 ?_
      refine GG.goto C (tgt := 29) dX0_wrongSet_24 (by decide) ?_
      have hf := Option.some.inj hf
      subst hf
      exact GG.iret C E dX0_wrongSet_29
  · have hf := if_t hf c3
    refine GG.iconst C dX0_wrongSet_8 ic_2 ?_
    refine GG.goto C (tgt := 29) dX0_wrongSet_9 (by decide) ?_
    have hf := Option.some.inj hf
    subst hf
    exact GG.iret C E dX0_wrongSet_29
theorem gX4_leftOut_4 {K : gK} {X : gX} {S : Option MS} {M : XS} (C : gC K X cX4_leftOut 4 yX4_leftOut (some Jvm.ClassFile.FieldType.int) rX4_leftOut)  {o : Int32} (E : gE K X (some (.int o)) M S rX4_leftOut.cells rX4_leftOut.slots)   :
    ∀ (n : Nat) (a0 : Nat) (a1 : Int32) (a2 : Int32) (a3 : Int32), fX4_leftOut_4 M n a0 a1 a2 a3 = some o → GG K X 4 0 0 M S 4 [(0, .ref a0), (1, .int a1), (2, .int a2), (3, .int a3)] [] := by
  intro n
  induction n with
  | zero => intro a0 a1 a2 a3 hf; cases hf
  | succ n ih =>
    intro a0 a1 a2 a3 hf
    rw [fX4_leftOut_4] at hf
    refine GG.iload_n C dX4_leftOut_4 3 rfl ?_
    refine GG.aload_n C dX4_leftOut_5 0 rfl ?_
    obtain ⟨c1, hf⟩ := gd_some hf
    refine GG.gx_X4_21 C rfl c1 dX4_leftOut_6 ?_
    refine GG.icmp_ge C (tgt := 57) dX4_leftOut_9 (by decide) (fun c2 => ?_) (fun c2 => ?_)
    · have hf := if_t hf c2
      refine GG.iload_n C dX4_leftOut_57 2 rfl ?_
      have hf := Option.some.inj hf
      subst hf
      exact GG.iret C E dX4_leftOut_58
    · have hf := if_f hf c2
      refine GG.iload_n C dX4_leftOut_12 1 rfl ?_
      refine GG.iload_n C dX4_leftOut_13 3 rfl ?_
      refine GG.ishr C dX4_leftOut_14 ?_
      refine GG.iconst C dX4_leftOut_15 ic_1 ?_
      refine GG.iand C dX4_leftOut_16 ?_
      refine GG.iconst C dX4_leftOut_17 ic_1 ?_
      refine GG.icmp_ne C (tgt := 51) dX4_leftOut_18 (by decide) (fun c3 => ?_) (fun c3 => ?_)
      · have hf := if_f hf c3
        refine GG.iinc C (v := (a3 + (nI 1))) (lv' := [(3, .int (a3 + (nI 1))), (0, .ref a0), (1, .int a1), (2, .int a2)]) dX4_leftOut_51 3 rfl (congrArg (a3 + ·) ic_1) (by decide) rfl ?_
        refine GG.goto C (tgt := 4) dX4_leftOut_54 (by decide) ?_
        refine GG.sub [1, 2, 3, 0] rfl ?_
        exact ih _ _ _ _ hf
      · have hf := if_t hf c3
        refine GG.aload_n C dX4_leftOut_21 0 rfl ?_
        obtain ⟨r4, hr4, hf⟩ := obd_some hf
        refine GG.gx_X4_11 C rfl c1 hr4 dX4_leftOut_22 ?_
        refine GG.iload_n C dX4_leftOut_25 3 rfl ?_
        obtain ⟨r5, hr5, hf⟩ := obd_some hf
        refine GG.aald C 0 hr5 (by decide) dX4_leftOut_26 ?_
        obtain ⟨c6, hf⟩ := gd_some hf
        obtain ⟨v7, hv7, hf⟩ := obd_some hf
        refine GG.d_X4_50 C rfl hv7 ⟨Nat.le_of_ble_eq_true rfl, Nat.le_of_ble_eq_true rfl⟩ (Nat.le_of_ble_eq_true rfl) (Nat.le_of_ble_eq_true rfl) (Nat.le_of_ble_eq_true rfl) dX4_leftOut_27 ?_
        refine GG.iconst C dX4_leftOut_30 ic_4 ?_
        refine GG.icmp_ne C (tgt := 51) dX4_leftOut_31 (by decide) (fun c8 => ?_) (fun c8 => ?_)
        · have hf := if_f hf c8
          refine GG.iinc C (v := (a3 + (nI 1))) (lv' := [(3, .int (a3 + (nI 1))), (0, .ref a0), (1, .int a1), (2, .int a2)]) dX4_leftOut_51 3 rfl (congrArg (a3 + ·) ic_1) (by decide) rfl ?_
          refine GG.goto C (tgt := 4) dX4_leftOut_54 (by decide) ?_
          refine GG.sub [1, 2, 3, 0] rfl ?_
          exact ih _ _ _ _ hf
        · have hf := if_t hf c8
          refine GG.iload_n C dX4_leftOut_34 2 rfl ?_
          refine GG.iconst C dX4_leftOut_35 ic_1 ?_
          refine GG.aload_n C dX4_leftOut_36 0 rfl ?_
          obtain ⟨r9, hr9, hf⟩ := obd_some hf
          refine GG.gx_X4_11 C rfl c1 hr9 dX4_leftOut_37 ?_
          refine GG.iload_n C dX4_leftOut_40 3 rfl ?_
          obtain ⟨r10, hr10, hf⟩ := obd_some hf
          refine GG.aald C 0 hr10 (by decide) dX4_leftOut_41 ?_
          obtain ⟨c11, hf⟩ := gd_some hf
          refine GG.castS C (r := (RX9, TX9, 9)) c11 rfl q1184 dX4_leftOut_42 ?_
          refine GG.gx_X4_66 C rfl c11 dX4_leftOut_45 ?_
          refine GG.ishl C dX4_leftOut_48 ?_
          refine GG.ior C dX4_leftOut_49 ?_
          refine GG.topi fun x12 hx12 => ?_
          have hf := ltb_s hx12 hf
          refine GG.istore_n C (lv' := [(2, .int x12), (0, .ref a0), (1, .int a1), (3, .int a3)]) dX4_leftOut_50 (by decide) rfl ?_
          refine GG.iinc C (v := (a3 + (nI 1))) (lv' := [(3, .int (a3 + (nI 1))), (2, .int x12), (0, .ref a0), (1, .int a1)]) dX4_leftOut_51 3 rfl (congrArg (a3 + ·) ic_1) (by decide) rfl ?_
          refine GG.goto C (tgt := 4) dX4_leftOut_54 (by decide) ?_
          refine GG.sub [2, 3, 1, 0] rfl ?_
          exact ih _ _ _ _ hf
theorem gX4_leftOut {K : gK} {S : Option MS}  {M : XS} {a0 : Nat} {a1 : Int32} {o : Int32} (hf : fX4_leftOut M a0 a1 = some o) : gMet K yX4_leftOut cX4_leftOut 4 (some Jvm.ClassFile.FieldType.int) rX4_leftOut [(.ref a0), (.int a1)] M S (some (.int o)) M S := by
  refine gMet.of pn_X4 (Nat.le_of_ble_eq_true rfl) fun X C E => ?_
  unfold fX4_leftOut at hf
  show GG K X 4 0 0 M S 0 [(0, .ref a0), (1, .int a1)] []
  refine GG.iconst C dX4_leftOut_0 ic_0 ?_
  refine GG.istore_n C (lv' := [(2, .int (nI 0)), (0, .ref a0), (1, .int a1)]) dX4_leftOut_1 (by decide) rfl ?_
  refine GG.iconst C dX4_leftOut_2 ic_0 ?_
  refine GG.istore_n C (lv' := [(3, .int (nI 0)), (2, .int (nI 0)), (0, .ref a0), (1, .int a1)]) dX4_leftOut_3 (by decide) rfl ?_
  refine GG.sub [2, 3, 1, 0] rfl ?_
  exact gX4_leftOut_4 C E  FU _ _ _ _ hf
theorem gX4_quarrels_87 {K : gK} {X : gX} {S : Option MS} {M : XS} (C : gC K X cX4_quarrels 6 yX4_quarrels (some Jvm.ClassFile.FieldType.int) rX4_quarrels)  {o : Int32} (E : gE K X (some (.int o)) M S rX4_quarrels.cells rX4_quarrels.slots) {k15 : Nat → Int32 → Int32 → Int32 → Int32 → Option Int32} (hk15 : ∀ (a0 : Nat) (a1 : Int32) (a2 : Int32) (a3 : Int32) (a4 : Int32), k15 a0 a1 a2 a3 a4 = some o → GG K X 6 0 0 M S 15 [(0, .ref a0), (1, .int a1), (2, .int a2), (3, .int a3), (4, .int a4)] []) :
    ∀ (a0 : Nat) (a1 : Int32) (a2 : Int32) (a3 : Int32) (a4 : Int32) (a5 : Nat), fX4_quarrels_87 M k15 a0 a1 a2 a3 a4 a5 = some o → GG K X 6 0 0 M S 87 [(0, .ref a0), (1, .int a1), (2, .int a2), (3, .int a3), (4, .int a4), (5, .ref a5)] [] := by
  intro a0 a1 a2 a3 a4 a5 hf
  unfold fX4_quarrels_87 at hf
  refine GG.aload C dX4_quarrels_87 5 rfl ?_
  obtain ⟨c20, hf⟩ := gd_some hf
  refine GG.gx_X4_66 C rfl c20 dX4_quarrels_89 ?_
  refine GG.iload_n C dX4_quarrels_92 2 rfl ?_
  refine GG.icmp_ne C (tgt := 108) dX4_quarrels_93 (by decide) (fun c21 => ?_) (fun c21 => ?_)
  · have hf := if_f hf c21
    refine GG.iinc C (v := (a4 + (nI 1))) (lv' := [(4, .int (a4 + (nI 1))), (0, .ref a0), (1, .int a1), (2, .int a2), (3, .int a3), (5, .ref a5)]) dX4_quarrels_108 4 rfl (congrArg (a4 + ·) ic_1) (by decide) rfl ?_
    refine GG.goto C (tgt := 15) dX4_quarrels_111 (by decide) ?_
    refine GG.sub [1, 2, 3, 4, 0] rfl ?_
    exact hk15 _ _ _ _ _ hf
  · have hf := if_t hf c21
    refine GG.iload_n C dX4_quarrels_96 3 rfl ?_
    refine GG.iconst C dX4_quarrels_97 ic_1 ?_
    refine GG.aload C dX4_quarrels_98 5 rfl ?_
    refine GG.gx_X4_63 C rfl c20 dX4_quarrels_100 ?_
    refine GG.ishl C dX4_quarrels_103 ?_
    refine GG.iconst C dX4_quarrels_104 ic_m1 ?_
    refine GG.ixor C dX4_quarrels_105 ?_
    refine GG.iand C dX4_quarrels_106 ?_
    refine GG.topi fun x22 hx22 => ?_
    have hf := ltb_s hx22 hf
    refine GG.istore_n C (lv' := [(3, .int x22), (0, .ref a0), (1, .int a1), (2, .int a2), (4, .int a4), (5, .ref a5)]) dX4_quarrels_107 (by decide) rfl ?_
    refine GG.iinc C (v := (a4 + (nI 1))) (lv' := [(4, .int (a4 + (nI 1))), (3, .int x22), (0, .ref a0), (1, .int a1), (2, .int a2), (5, .ref a5)]) dX4_quarrels_108 4 rfl (congrArg (a4 + ·) ic_1) (by decide) rfl ?_
    refine GG.goto C (tgt := 15) dX4_quarrels_111 (by decide) ?_
    refine GG.sub [2, 3, 4, 1, 0] rfl ?_
    exact hk15 _ _ _ _ _ hf
theorem gX4_quarrels_15 {K : gK} {X : gX} {S : Option MS} {M : XS} (C : gC K X cX4_quarrels 6 yX4_quarrels (some Jvm.ClassFile.FieldType.int) rX4_quarrels)  {o : Int32} (E : gE K X (some (.int o)) M S rX4_quarrels.cells rX4_quarrels.slots)   :
    ∀ (n : Nat) (a0 : Nat) (a1 : Int32) (a2 : Int32) (a3 : Int32) (a4 : Int32), fX4_quarrels_15 M n a0 a1 a2 a3 a4 = some o → GG K X 6 0 0 M S 15 [(0, .ref a0), (1, .int a1), (2, .int a2), (3, .int a3), (4, .int a4)] [] := by
  intro n
  induction n with
  | zero => intro a0 a1 a2 a3 a4 hf; cases hf
  | succ n ih =>
    intro a0 a1 a2 a3 a4 hf
    rw [fX4_quarrels_15] at hf
    refine GG.iload C dX4_quarrels_15 4 rfl ?_
    refine GG.aload_n C dX4_quarrels_17 0 rfl ?_
    obtain ⟨c6, hf⟩ := gd_some hf
    refine GG.gx_X4_21 C rfl c6 dX4_quarrels_18 ?_
    refine GG.icmp_ge C (tgt := 114) dX4_quarrels_21 (by decide) (fun c7 => ?_) (fun c7 => ?_)
    · have hf := if_t hf c7
      refine GG.iload_n C dX4_quarrels_114 3 rfl ?_
      have hf := Option.some.inj hf
      subst hf
      exact GG.iret C E dX4_quarrels_115
    · have hf := if_f hf c7
      refine GG.iload_n C dX4_quarrels_24 3 rfl ?_
      refine GG.if_eq C (tgt := 114) dX4_quarrels_25 (by decide) (fun c8 => ?_) (fun c8 => ?_)
      · have hf := if_t hf c8
        refine GG.iload_n C dX4_quarrels_114 3 rfl ?_
        have hf := Option.some.inj hf
        subst hf
        exact GG.iret C E dX4_quarrels_115
      · have hf := if_f hf c8
        refine GG.iload_n C dX4_quarrels_28 1 rfl ?_
        refine GG.iload C dX4_quarrels_29 4 rfl ?_
        refine GG.ishr C dX4_quarrels_31 ?_
        refine GG.iconst C dX4_quarrels_32 ic_1 ?_
        refine GG.iand C dX4_quarrels_33 ?_
        refine GG.if_eq C (tgt := 108) dX4_quarrels_34 (by decide) (fun c9 => ?_) (fun c9 => ?_)
        · have hf := if_t hf c9
          refine GG.iinc C (v := (a4 + (nI 1))) (lv' := [(4, .int (a4 + (nI 1))), (0, .ref a0), (1, .int a1), (2, .int a2), (3, .int a3)]) dX4_quarrels_108 4 rfl (congrArg (a4 + ·) ic_1) (by decide) rfl ?_
          refine GG.goto C (tgt := 15) dX4_quarrels_111 (by decide) ?_
          refine GG.sub [1, 2, 3, 4, 0] rfl ?_
          exact ih _ _ _ _ _ hf
        · have hf := if_f hf c9
          refine GG.aload_n C dX4_quarrels_37 0 rfl ?_
          obtain ⟨r10, hr10, hf⟩ := obd_some hf
          refine GG.gx_X4_11 C rfl c6 hr10 dX4_quarrels_38 ?_
          refine GG.iload C dX4_quarrels_41 4 rfl ?_
          obtain ⟨r11, hr11, hf⟩ := obd_some hf
          refine GG.aald C 0 hr11 (by decide) dX4_quarrels_43 ?_
          obtain ⟨c12, hf⟩ := gd_some hf
          obtain ⟨v13, hv13, hf⟩ := obd_some hf
          refine GG.d_X4_50 C rfl hv13 ⟨Nat.le_of_ble_eq_true rfl, Nat.le_of_ble_eq_true rfl⟩ (Nat.le_of_ble_eq_true rfl) (Nat.le_of_ble_eq_true rfl) (Nat.le_of_ble_eq_true rfl) dX4_quarrels_44 ?_
          refine GG.iconst C dX4_quarrels_47 ic_4 ?_
          refine GG.icmp_eq C (tgt := 54) dX4_quarrels_48 (by decide) (fun c14 => ?_) (fun c14 => ?_)
          · have hf := if_t hf c14
            refine GG.aload_n C dX4_quarrels_54 0 rfl ?_
            obtain ⟨r15, hr15, hf⟩ := obd_some hf
            refine GG.gx_X4_11 C rfl c6 hr15 dX4_quarrels_55 ?_
            refine GG.iload C dX4_quarrels_58 4 rfl ?_
            obtain ⟨r16, hr16, hf⟩ := obd_some hf
            refine GG.aald C 0 hr16 (by decide) dX4_quarrels_60 ?_
            obtain ⟨c17, hf⟩ := gd_some hf
            refine GG.castS C (r := (RX9, TX9, 9)) c17 rfl q1184 dX4_quarrels_61 ?_
            refine GG.astore C (lv' := [(5, .ref r16), (0, .ref a0), (1, .int a1), (2, .int a2), (3, .int a3), (4, .int a4)]) dX4_quarrels_64 (by decide) rfl ?_
            refine GG.aload C dX4_quarrels_66 0 rfl ?_
            refine GG.gx_X4_63 C rfl c17 dX4_quarrels_68 ?_
            refine GG.iload_n C dX4_quarrels_71 3 rfl ?_
            refine GG.icmp_ne C (tgt := 87) dX4_quarrels_72 (by decide) (fun c18 => ?_) (fun c18 => ?_)
            · have hf := if_f hf c18
              refine GG.sub [1, 2, 3, 4, 5, 0] rfl ?_
              exact gX4_quarrels_87 C E (hk15 := ih) _ _ _ _ _ _ hf
            · have hf := if_t hf c18
              refine GG.iload_n C dX4_quarrels_75 4 rfl ?_
              refine GG.iconst C dX4_quarrels_76 ic_1 ?_
              refine GG.aload C dX4_quarrels_77 0 rfl ?_
              refine GG.gx_X4_66 C rfl c17 dX4_quarrels_79 ?_
              refine GG.ishl C dX4_quarrels_82 ?_
              refine GG.iconst C dX4_quarrels_83 ic_m1 ?_
              refine GG.ixor C dX4_quarrels_84 ?_
              refine GG.iand C dX4_quarrels_85 ?_
              refine GG.topi fun x19 hx19 => ?_
              have hf := ltb_s hx19 hf
              refine GG.istore_n C (lv' := [(3, .int x19), (5, .ref r16), (0, .ref a0), (1, .int a1), (2, .int a2), (4, .int a4)]) dX4_quarrels_86 (by decide) rfl ?_
              refine GG.sub [2, 3, 4, 0, 5, 1] rfl ?_
              exact gX4_quarrels_87 C E (hk15 := ih) _ _ _ _ _ _ hf
          · have hf := if_f hf c14
            refine GG.goto C (tgt := 108) dX4_quarrels_51 (by decide) ?_
            refine GG.iinc C (v := (a4 + (nI 1))) (lv' := [(4, .int (a4 + (nI 1))), (0, .ref a0), (1, .int a1), (2, .int a2), (3, .int a3)]) dX4_quarrels_108 4 rfl (congrArg (a4 + ·) ic_1) (by decide) rfl ?_
            refine GG.goto C (tgt := 15) dX4_quarrels_111 (by decide) ?_
            refine GG.sub [1, 2, 3, 4, 0] rfl ?_
            exact ih _ _ _ _ _ hf
theorem gX4_quarrels {K : gK} {S : Option MS}  {M : XS} {a0 : Nat} {a1 : Int32} {a2 : Int32} {o : Int32} (hf : fX4_quarrels M a0 a1 a2 = some o) : gMet K yX4_quarrels cX4_quarrels 6 (some Jvm.ClassFile.FieldType.int) rX4_quarrels [(.ref a0), (.int a1), (.int a2)] M S (some (.int o)) M S := by
  refine gMet.of pn_X4 (Nat.le_of_ble_eq_true rfl) fun X C E => ?_
  unfold fX4_quarrels at hf
  show GG K X 6 0 0 M S 0 [(0, .ref a0), (1, .int a1), (2, .int a2)] []
  refine GG.aload_n C dX4_quarrels_0 0 rfl ?_
  obtain ⟨c1, hf⟩ := gd_some hf
  obtain ⟨r2, hr2, hf⟩ := obd_some hf
  refine GG.gx_X4_11 C rfl c1 hr2 dX4_quarrels_1 ?_
  refine GG.iload_n C dX4_quarrels_4 2 rfl ?_
  obtain ⟨r3, hr3, hf⟩ := obd_some hf
  refine GG.aald C 0 hr3 (by decide) dX4_quarrels_5 ?_
  obtain ⟨c4, hf⟩ := gd_some hf
  refine GG.gx_X4_58 C rfl c4 dX4_quarrels_6 ?_
  refine GG.iload_n C dX4_quarrels_9 1 rfl ?_
  refine GG.iand C dX4_quarrels_10 ?_
  refine GG.topi fun x5 hx5 => ?_
  have hf := ltb_s hx5 hf
  refine GG.istore_n C (lv' := [(3, .int x5), (0, .ref a0), (1, .int a1), (2, .int a2)]) dX4_quarrels_11 (by decide) rfl ?_
  refine GG.iconst C dX4_quarrels_12 ic_0 ?_
  refine GG.istore C (lv' := [(4, .int (nI 0)), (3, .int x5), (0, .ref a0), (1, .int a1), (2, .int a2)]) dX4_quarrels_13 (by decide) rfl ?_
  refine GG.sub [2, 3, 4, 1, 0] rfl ?_
  exact gX4_quarrels_15 C E  FU _ _ _ _ _ hf
theorem gX4_isGone_9 {K : gK} {X : gX} {S : Option MS} {M : XS} (C : gC K X cX4_isGone 5 yX4_isGone (some Jvm.ClassFile.FieldType.boolean) rX4_isGone)  {o : Int32} (E : gE K X (some (.int o)) M S rX4_isGone.cells rX4_isGone.slots)   :
    ∀ (n : Nat) (a0 : Nat) (a1 : Int32) (a2 : Int32) (a3 : Int32) (a4 : Int32), fX4_isGone_9 M n a0 a1 a2 a3 a4 = some o → GG K X 5 0 0 M S 9 [(0, .ref a0), (1, .int a1), (2, .int a2), (3, .int a3), (4, .int a4)] [] := by
  intro n
  induction n with
  | zero => intro a0 a1 a2 a3 a4 hf; cases hf
  | succ n ih =>
    intro a0 a1 a2 a3 a4 hf
    rw [fX4_isGone_9] at hf
    refine GG.iload C dX4_isGone_9 4 rfl ?_
    refine GG.aload_n C dX4_isGone_11 0 rfl ?_
    obtain ⟨c3, hf⟩ := gd_some hf
    refine GG.gx_X4_21 C rfl c3 dX4_isGone_12 ?_
    refine GG.icmp_ge C (tgt := 81) dX4_isGone_15 (by decide) (fun c4 => ?_) (fun c4 => ?_)
    · have hf := if_t hf c4
      refine GG.iconst C dX4_isGone_81 ic_0 ?_
      have hf := Option.some.inj hf
      subst hf
      exact GG.zret C zb_0 E dX4_isGone_82
    · have hf := if_f hf c4
      refine GG.iload_n C dX4_isGone_18 1 rfl ?_
      refine GG.iload_n C dX4_isGone_19 3 rfl ?_
      refine GG.iconst C dX4_isGone_20 ic_m1 ?_
      refine GG.ixor C dX4_isGone_21 ?_
      refine GG.iand C dX4_isGone_22 ?_
      refine GG.iload C dX4_isGone_23 4 rfl ?_
      refine GG.bipush C dX4_isGone_25 bp_16 ?_
      refine GG.irem C dX4_isGone_27 (by decide) ?_
      refine GG.ishr C dX4_isGone_28 ?_
      refine GG.bipush C dX4_isGone_29 bp_31 ?_
      refine GG.ishl C dX4_isGone_31 ?_
      refine GG.if_eq C (tgt := 75) dX4_isGone_32 (by decide) (fun c5 => ?_) (fun c5 => ?_)
      · have hf := if_t hf c5
        refine GG.iinc C (v := (a4 + (nI 1))) (lv' := [(4, .int (a4 + (nI 1))), (0, .ref a0), (1, .int a1), (2, .int a2), (3, .int a3)]) dX4_isGone_75 4 rfl (congrArg (a4 + ·) ic_1) (by decide) rfl ?_
        refine GG.goto C (tgt := 9) dX4_isGone_78 (by decide) ?_
        refine GG.sub [1, 2, 3, 4, 0] rfl ?_
        exact ih _ _ _ _ _ hf
      · have hf := if_f hf c5
        refine GG.aload_n C dX4_isGone_35 0 rfl ?_
        obtain ⟨r6, hr6, hf⟩ := obd_some hf
        refine GG.gx_X4_11 C rfl c3 hr6 dX4_isGone_36 ?_
        refine GG.iload C dX4_isGone_39 4 rfl ?_
        obtain ⟨r7, hr7, hf⟩ := obd_some hf
        refine GG.aald C 0 hr7 (by decide) dX4_isGone_41 ?_
        obtain ⟨c8, hf⟩ := gd_some hf
        obtain ⟨v9, hv9, hf⟩ := obd_some hf
        refine GG.d_X4_50 C rfl hv9 ⟨Nat.le_of_ble_eq_true rfl, Nat.le_of_ble_eq_true rfl⟩ (Nat.le_of_ble_eq_true rfl) (Nat.le_of_ble_eq_true rfl) (Nat.le_of_ble_eq_true rfl) dX4_isGone_42 ?_
        refine GG.iconst C dX4_isGone_45 ic_1 ?_
        refine GG.icmp_ne C (tgt := 75) dX4_isGone_46 (by decide) (fun c10 => ?_) (fun c10 => ?_)
        · have hf := if_f hf c10
          refine GG.iinc C (v := (a4 + (nI 1))) (lv' := [(4, .int (a4 + (nI 1))), (0, .ref a0), (1, .int a1), (2, .int a2), (3, .int a3)]) dX4_isGone_75 4 rfl (congrArg (a4 + ·) ic_1) (by decide) rfl ?_
          refine GG.goto C (tgt := 9) dX4_isGone_78 (by decide) ?_
          refine GG.sub [1, 2, 3, 4, 0] rfl ?_
          exact ih _ _ _ _ _ hf
        · have hf := if_t hf c10
          refine GG.aload_n C dX4_isGone_49 0 rfl ?_
          obtain ⟨r11, hr11, hf⟩ := obd_some hf
          refine GG.gx_X4_11 C rfl c3 hr11 dX4_isGone_50 ?_
          refine GG.iload C dX4_isGone_53 4 rfl ?_
          obtain ⟨r12, hr12, hf⟩ := obd_some hf
          refine GG.aald C 0 hr12 (by decide) dX4_isGone_55 ?_
          obtain ⟨c13, hf⟩ := gd_some hf
          refine GG.gx_X4_47 C rfl c13 dX4_isGone_56 ?_
          refine GG.iload_n C dX4_isGone_59 2 rfl ?_
          refine GG.icmp_ne C (tgt := 75) dX4_isGone_60 (by decide) (fun c14 => ?_) (fun c14 => ?_)
          · have hf := if_f hf c14
            refine GG.iinc C (v := (a4 + (nI 1))) (lv' := [(4, .int (a4 + (nI 1))), (0, .ref a0), (1, .int a1), (2, .int a2), (3, .int a3)]) dX4_isGone_75 4 rfl (congrArg (a4 + ·) ic_1) (by decide) rfl ?_
            refine GG.goto C (tgt := 9) dX4_isGone_78 (by decide) ?_
            refine GG.sub [1, 2, 3, 4, 0] rfl ?_
            exact ih _ _ _ _ _ hf
          · have hf := if_t hf c14
            refine GG.aload_n C dX4_isGone_63 0 rfl ?_
            refine GG.iload_n C dX4_isGone_64 1 rfl ?_
            refine GG.iload C dX4_isGone_65 4 rfl ?_
            obtain ⟨v15, hv15, hf⟩ := obd_some hf
            refine GG.c_X4_69 C rfl (gX4_quarrels hv15) c3 ⟨Nat.le_of_ble_eq_true rfl, Nat.le_of_ble_eq_true rfl⟩ ⟨Nat.le_of_ble_eq_true rfl, Nat.le_of_ble_eq_true rfl⟩ (Nat.le_of_ble_eq_true rfl) dX4_isGone_67 ?_
            refine GG.if_ne C (tgt := 75) dX4_isGone_70 (by decide) (fun c16 => ?_) (fun c16 => ?_)
            · have hf := if_f hf c16
              refine GG.iinc C (v := (a4 + (nI 1))) (lv' := [(4, .int (a4 + (nI 1))), (0, .ref a0), (1, .int a1), (2, .int a2), (3, .int a3)]) dX4_isGone_75 4 rfl (congrArg (a4 + ·) ic_1) (by decide) rfl ?_
              refine GG.goto C (tgt := 9) dX4_isGone_78 (by decide) ?_
              refine GG.sub [1, 2, 3, 4, 0] rfl ?_
              exact ih _ _ _ _ _ hf
            · have hf := if_t hf c16
              refine GG.iconst C dX4_isGone_73 ic_1 ?_
              have hf := Option.some.inj hf
              subst hf
              exact GG.zret C zb_1 E dX4_isGone_74
theorem gX4_isGone {K : gK} {S : Option MS}  {M : XS} {a0 : Nat} {a1 : Int32} {a2 : Int32} {o : Int32} (hf : fX4_isGone M a0 a1 a2 = some o) : gMet K yX4_isGone cX4_isGone 5 (some Jvm.ClassFile.FieldType.boolean) rX4_isGone [(.ref a0), (.int a1), (.int a2)] M S (some (.int o)) M S := by
  refine gMet.of pn_X4 (Nat.le_of_ble_eq_true rfl) fun X C E => ?_
  unfold fX4_isGone at hf
  show GG K X 5 0 0 M S 0 [(0, .ref a0), (1, .int a1), (2, .int a2)] []
  refine GG.aload_n C dX4_isGone_0 0 rfl ?_
  refine GG.iload_n C dX4_isGone_1 1 rfl ?_
  obtain ⟨c1, hf⟩ := gd_some hf
  obtain ⟨v2, hv2, hf⟩ := obd_some hf
  refine GG.c_X4_71 C rfl (gX4_leftOut hv2) c1 ⟨Nat.le_of_ble_eq_true rfl, Nat.le_of_ble_eq_true rfl⟩ ⟨Nat.le_of_ble_eq_true rfl, Nat.le_of_ble_eq_true rfl⟩ (Nat.le_of_ble_eq_true rfl) dX4_isGone_2 ?_
  refine GG.istore_n C (lv' := [(3, .int v2), (0, .ref a0), (1, .int a1), (2, .int a2)]) dX4_isGone_5 (by decide) rfl ?_
  refine GG.iconst C dX4_isGone_6 ic_0 ?_
  refine GG.istore C (lv' := [(4, .int (nI 0)), (3, .int v2), (0, .ref a0), (1, .int a1), (2, .int a2)]) dX4_isGone_7 (by decide) rfl ?_
  refine GG.sub [2, 3, 4, 1, 0] rfl ?_
  exact gX4_isGone_9 C E  FU _ _ _ _ _ hf
theorem gX4_tells_227 {K : gK} {X : gX} {S : Option MS} {M : XS} (C : gC K X cX4_tells 9 yX4_tells (some Jvm.ClassFile.FieldType.int) rX4_tells)  {o : Int32} (E : gE K X (some (.int o)) M S rX4_tells.cells rX4_tells.slots)   :
    ∀ (a0 : Nat) (a2 : Int32) (a3 : Int32) (a4 : Nat) (s0 : Int32), fX4_tells_227 M a0 a2 a3 a4 s0 = some o → GG K X 9 0 0 M S 227 [(0, .ref a0), (2, .int a2), (3, .int a3), (4, .ref a4)] [.int s0] := by
  intro a0 a2 a3 a4 s0 hf
  unfold fX4_tells_227 at hf
  refine GG.istore C (lv' := [(8, .int s0), (0, .ref a0), (2, .int a2), (3, .int a3), (4, .ref a4)]) dX4_tells_227 (by decide) rfl ?_
  refine GG.iload C dX4_tells_229 0 rfl ?_
  refine GG.iload_n C dX4_tells_231 2 rfl ?_
  refine GG.icmp_eq C (tgt := 248) dX4_tells_232 (by decide) (fun c40 => ?_) (fun c40 => ?_)
  · have hf := if_t hf c40
    refine GG.iload_n C dX4_tells_248 3 rfl ?_
    refine GG.iconst C dX4_tells_249 ic_2 ?_
    refine GG.icmp_ne C (tgt := 261) dX4_tells_250 (by decide) (fun c41 => ?_) (fun c41 => ?_)
    · have hf := if_f hf c41
      refine GG.aload C dX4_tells_261 4 rfl ?_
      obtain ⟨c42, hf⟩ := gd_some hf
      refine GG.gx_X4_94 C rfl c42 dX4_tells_263 ?_
      have hf := Option.some.inj hf
      subst hf
      exact GG.iret C E dX4_tells_266
    · have hf := if_t hf c41
      refine GG.aload C dX4_tells_253 4 rfl ?_
      obtain ⟨c43, hf⟩ := gd_some hf
      refine GG.gx_X4_91 C rfl c43 dX4_tells_255 ?_
      refine GG.goto C (tgt := 266) dX4_tells_258 (by decide) ?_
      have hf := Option.some.inj hf
      subst hf
      exact GG.iret C E dX4_tells_266
  · have hf := if_f hf c40
    refine GG.aload_n C dX4_tells_235 1 rfl ?_
    obtain ⟨c44, hf⟩ := gd_some hf
    obtain ⟨r45, hr45, hf⟩ := obd_some hf
    refine GG.gx_X4_11 C rfl c44 hr45 dX4_tells_236 ?_
    refine GG.iload C dX4_tells_239 0 rfl ?_
    obtain ⟨r46, hr46, hf⟩ := obd_some hf
    refine GG.aald C 0 hr46 (by decide) dX4_tells_241 ?_
    obtain ⟨c47, hf⟩ := gd_some hf
    obtain ⟨v48, hv48, hf⟩ := obd_some hf
    refine GG.d_X4_88 C rfl hv48 ⟨Nat.le_of_ble_eq_true rfl, Nat.le_of_ble_eq_true rfl⟩ (Nat.le_of_ble_eq_true rfl) (Nat.le_of_ble_eq_true rfl) (Nat.le_of_ble_eq_true rfl) dX4_tells_242 ?_
    refine GG.goto C (tgt := 266) dX4_tells_245 (by decide) ?_
    have hf := Option.some.inj hf
    subst hf
    exact GG.iret C E dX4_tells_266
theorem gX4_tells_152 {K : gK} {X : gX} {S : Option MS} {M : XS} (C : gC K X cX4_tells 9 yX4_tells (some Jvm.ClassFile.FieldType.int) rX4_tells)  {o : Int32} (E : gE K X (some (.int o)) M S rX4_tells.cells rX4_tells.slots)   :
    ∀ (n : Nat) (a0 : Nat) (a2 : Int32) (a3 : Int32) (a4 : Nat) (a6 : Int32) (a7 : Int32) (a8 : Int32), fX4_tells_152 M n a0 a2 a3 a4 a6 a7 a8 = some o → GG K X 9 0 0 M S 152 [(0, .ref a0), (2, .int a2), (3, .int a3), (4, .ref a4), (6, .int a6), (7, .int a7), (8, .int a8)] [] := by
  intro n
  induction n with
  | zero => intro a0 a2 a3 a4 a6 a7 a8 hf; cases hf
  | succ n ih =>
    intro a0 a2 a3 a4 a6 a7 a8 hf
    rw [fX4_tells_152] at hf
    refine GG.iload C dX4_tells_152 6 rfl ?_
    refine GG.aload_n C dX4_tells_154 0 rfl ?_
    obtain ⟨c28, hf⟩ := gd_some hf
    refine GG.gx_X4_21 C rfl c28 dX4_tells_155 ?_
    refine GG.icmp_ge C (tgt := 193) dX4_tells_158 (by decide) (fun c29 => ?_) (fun c29 => ?_)
    · have hf := if_t hf c29
      refine GG.iload C dX4_tells_193 4 rfl ?_
      obtain ⟨v30, hv30, hf⟩ := obd_some hf
      refine GG.c_X4_77 C rfl (gJ12_bitCount hv30) ⟨Nat.le_of_ble_eq_true rfl, Nat.le_of_ble_eq_true rfl⟩ ⟨Nat.le_of_ble_eq_true rfl, Nat.le_of_ble_eq_true rfl⟩ (Nat.le_of_ble_eq_true rfl) dX4_tells_195 ?_
      refine GG.iconst C dX4_tells_198 ic_1 ?_
      refine GG.icmp_ne C (tgt := 210) dX4_tells_199 (by decide) (fun c31 => ?_) (fun c31 => ?_)
      · have hf := if_f hf c31
        refine GG.iload C dX4_tells_210 4 rfl ?_
        refine GG.if_ne C (tgt := 219) dX4_tells_212 (by decide) (fun c32 => ?_) (fun c32 => ?_)
        · have hf := if_f hf c32
          refine GG.bipush C dX4_tells_219 bp_31 ?_
          refine GG.iload C dX4_tells_221 5 rfl ?_
          obtain ⟨v33, hv33, hf⟩ := obd_some hf
          refine GG.c_X4_85 C rfl (gJ12_numberOfLeadingZeros hv33) ⟨Nat.le_of_ble_eq_true rfl, Nat.le_of_ble_eq_true rfl⟩ ⟨Nat.le_of_ble_eq_true rfl, Nat.le_of_ble_eq_true rfl⟩ (Nat.le_of_ble_eq_true rfl) dX4_tells_223 ?_
          refine GG.isub C dX4_tells_226 ?_
          refine GG.sub [0, 1, 2, 3] rfl ?_
          exact gX4_tells_227 C E  _ _ _ _ _ hf
        · have hf := if_t hf c32
          refine GG.iload_n C dX4_tells_215 1 rfl ?_
          refine GG.goto C (tgt := 227) dX4_tells_216 (by decide) ?_
          refine GG.sub [0, 1, 2, 3] rfl ?_
          exact gX4_tells_227 C E  _ _ _ _ _ hf
      · have hf := if_t hf c31
        refine GG.iload C dX4_tells_202 4 rfl ?_
        obtain ⟨v34, hv34, hf⟩ := obd_some hf
        refine GG.c_X4_82 C rfl (gJ12_numberOfTrailingZeros hv34) ⟨Nat.le_of_ble_eq_true rfl, Nat.le_of_ble_eq_true rfl⟩ ⟨Nat.le_of_ble_eq_true rfl, Nat.le_of_ble_eq_true rfl⟩ (Nat.le_of_ble_eq_true rfl) dX4_tells_204 ?_
        refine GG.goto C (tgt := 227) dX4_tells_207 (by decide) ?_
        refine GG.sub [0, 1, 2, 3] rfl ?_
        exact gX4_tells_227 C E  _ _ _ _ _ hf
    · have hf := if_f hf c29
      refine GG.iload C dX4_tells_161 4 rfl ?_
      refine GG.iload C dX4_tells_163 6 rfl ?_
      refine GG.ishr C dX4_tells_165 ?_
      refine GG.iconst C dX4_tells_166 ic_1 ?_
      refine GG.iand C dX4_tells_167 ?_
      refine GG.iconst C dX4_tells_168 ic_1 ?_
      refine GG.icmp_ne C (tgt := 187) dX4_tells_169 (by decide) (fun c35 => ?_) (fun c35 => ?_)
      · have hf := if_f hf c35
        refine GG.iinc C (v := (a8 + (nI 1))) (lv' := [(8, .int (a8 + (nI 1))), (0, .ref a0), (2, .int a2), (3, .int a3), (4, .ref a4), (6, .int a6), (7, .int a7)]) dX4_tells_187 6 rfl (congrArg (a8 + ·) ic_1) (by decide) rfl ?_
        refine GG.goto C (tgt := 152) dX4_tells_190 (by decide) ?_
        refine GG.sub [1, 2, 3, 4, 5, 6, 0] rfl ?_
        exact ih _ _ _ _ _ _ _ hf
      · have hf := if_t hf c35
        refine GG.iload C dX4_tells_172 5 rfl ?_
        refine GG.aload_n C dX4_tells_174 0 rfl ?_
        obtain ⟨r36, hr36, hf⟩ := obd_some hf
        refine GG.gx_X4_11 C rfl c28 hr36 dX4_tells_175 ?_
        refine GG.iload C dX4_tells_178 6 rfl ?_
        obtain ⟨r37, hr37, hf⟩ := obd_some hf
        refine GG.aald C 0 hr37 (by decide) dX4_tells_180 ?_
        obtain ⟨c38, hf⟩ := gd_some hf
        refine GG.gx_X4_35 C rfl c38 dX4_tells_181 ?_
        refine GG.iand C dX4_tells_184 ?_
        refine GG.topi fun x39 hx39 => ?_
        have hf := ltb_s hx39 hf
        refine GG.istore C (lv' := [(7, .int x39), (0, .ref a0), (2, .int a2), (3, .int a3), (4, .ref a4), (6, .int a6), (8, .int a8)]) dX4_tells_185 (by decide) rfl ?_
        refine GG.iinc C (v := (a8 + (nI 1))) (lv' := [(8, .int (a8 + (nI 1))), (7, .int x39), (0, .ref a0), (2, .int a2), (3, .int a3), (4, .ref a4), (6, .int a6)]) dX4_tells_187 6 rfl (congrArg (a8 + ·) ic_1) (by decide) rfl ?_
        refine GG.goto C (tgt := 152) dX4_tells_190 (by decide) ?_
        refine GG.sub [2, 3, 4, 5, 6, 1, 0] rfl ?_
        exact ih _ _ _ _ _ _ _ hf
theorem gX4_tells_98 {K : gK} {X : gX} {S : Option MS} {M : XS} (C : gC K X cX4_tells 9 yX4_tells (some Jvm.ClassFile.FieldType.int) rX4_tells)  {o : Int32} (E : gE K X (some (.int o)) M S rX4_tells.cells rX4_tells.slots)   :
    ∀ (n : Nat) (a0 : Nat) (a2 : Int32) (a3 : Int32) (a4 : Nat) (a5 : Int32) (a6 : Int32) (a7 : Int32), fX4_tells_98 M n a0 a2 a3 a4 a5 a6 a7 = some o → GG K X 9 0 0 M S 98 [(0, .ref a0), (2, .int a2), (3, .int a3), (4, .ref a4), (5, .int a5), (6, .int a6), (7, .int a7)] [] := by
  intro n
  induction n with
  | zero => intro a0 a2 a3 a4 a5 a6 a7 hf; cases hf
  | succ n ih =>
    intro a0 a2 a3 a4 a5 a6 a7 hf
    rw [fX4_tells_98] at hf
    refine GG.iload C dX4_tells_98 6 rfl ?_
    refine GG.aload_n C dX4_tells_100 0 rfl ?_
    obtain ⟨c20, hf⟩ := gd_some hf
    refine GG.gx_X4_21 C rfl c20 dX4_tells_101 ?_
    refine GG.icmp_ge C (tgt := 141) dX4_tells_104 (by decide) (fun c21 => ?_) (fun c21 => ?_)
    · have hf := if_t hf c21
      refine GG.iload C dX4_tells_141 4 rfl ?_
      refine GG.iconst C dX4_tells_143 ic_1 ?_
      refine GG.iload_n C dX4_tells_144 1 rfl ?_
      refine GG.ishl C dX4_tells_145 ?_
      refine GG.ior C dX4_tells_146 ?_
      refine GG.topi fun x22 hx22 => ?_
      have hf := ltb_s hx22 hf
      refine GG.istore C (lv' := [(7, .int x22), (0, .ref a0), (2, .int a2), (3, .int a3), (4, .ref a4), (5, .int a5), (6, .int a6)]) dX4_tells_147 (by decide) rfl ?_
      refine GG.iconst C dX4_tells_149 ic_0 ?_
      refine GG.istore C (lv' := [(8, .int (nI 0)), (7, .int x22), (0, .ref a0), (2, .int a2), (3, .int a3), (4, .ref a4), (5, .int a5), (6, .int a6)]) dX4_tells_150 (by decide) rfl ?_
      refine GG.sub [2, 3, 4, 5, 7, 1, 0] rfl ?_
      exact gX4_tells_152 C E  FU _ _ _ _ _ _ _ hf
    · have hf := if_f hf c21
      refine GG.iload C dX4_tells_107 4 rfl ?_
      refine GG.iload C dX4_tells_109 6 rfl ?_
      refine GG.ishr C dX4_tells_111 ?_
      refine GG.iconst C dX4_tells_112 ic_1 ?_
      refine GG.iand C dX4_tells_113 ?_
      refine GG.iconst C dX4_tells_114 ic_1 ?_
      refine GG.icmp_ne C (tgt := 135) dX4_tells_115 (by decide) (fun c23 => ?_) (fun c23 => ?_)
      · have hf := if_f hf c23
        refine GG.iinc C (v := (a7 + (nI 1))) (lv' := [(7, .int (a7 + (nI 1))), (0, .ref a0), (2, .int a2), (3, .int a3), (4, .ref a4), (5, .int a5), (6, .int a6)]) dX4_tells_135 6 rfl (congrArg (a7 + ·) ic_1) (by decide) rfl ?_
        refine GG.goto C (tgt := 98) dX4_tells_138 (by decide) ?_
        refine GG.sub [1, 2, 3, 4, 5, 6, 0] rfl ?_
        exact ih _ _ _ _ _ _ _ hf
      · have hf := if_t hf c23
        refine GG.iload C dX4_tells_118 5 rfl ?_
        refine GG.aload_n C dX4_tells_120 0 rfl ?_
        obtain ⟨r24, hr24, hf⟩ := obd_some hf
        refine GG.gx_X4_11 C rfl c20 hr24 dX4_tells_121 ?_
        refine GG.iload C dX4_tells_124 6 rfl ?_
        obtain ⟨r25, hr25, hf⟩ := obd_some hf
        refine GG.aald C 0 hr25 (by decide) dX4_tells_126 ?_
        obtain ⟨c26, hf⟩ := gd_some hf
        refine GG.gx_X4_35 C rfl c26 dX4_tells_127 ?_
        refine GG.iconst C dX4_tells_130 ic_m1 ?_
        refine GG.ixor C dX4_tells_131 ?_
        refine GG.iand C dX4_tells_132 ?_
        refine GG.topi fun x27 hx27 => ?_
        have hf := ltb_s hx27 hf
        refine GG.istore C (lv' := [(6, .int x27), (0, .ref a0), (2, .int a2), (3, .int a3), (4, .ref a4), (5, .int a5), (7, .int a7)]) dX4_tells_133 (by decide) rfl ?_
        refine GG.iinc C (v := (a7 + (nI 1))) (lv' := [(7, .int (a7 + (nI 1))), (6, .int x27), (0, .ref a0), (2, .int a2), (3, .int a3), (4, .ref a4), (5, .int a5)]) dX4_tells_135 6 rfl (congrArg (a7 + ·) ic_1) (by decide) rfl ?_
        refine GG.goto C (tgt := 98) dX4_tells_138 (by decide) ?_
        refine GG.sub [2, 3, 4, 5, 6, 1, 0] rfl ?_
        exact ih _ _ _ _ _ _ _ hf
theorem gX4_tells_17 {K : gK} {X : gX} {S : Option MS} {M : XS} (C : gC K X cX4_tells 9 yX4_tells (some Jvm.ClassFile.FieldType.int) rX4_tells)  {o : Int32} (E : gE K X (some (.int o)) M S rX4_tells.cells rX4_tells.slots)   :
    ∀ (n : Nat) (a0 : Nat) (a1 : Int32) (a2 : Int32) (a3 : Int32) (a4 : Nat) (a5 : Int32) (a6 : Int32), fX4_tells_17 M n a0 a1 a2 a3 a4 a5 a6 = some o → GG K X 9 0 0 M S 17 [(0, .ref a0), (1, .int a1), (2, .int a2), (3, .int a3), (4, .ref a4), (5, .int a5), (6, .int a6)] [] := by
  intro n
  induction n with
  | zero => intro a0 a1 a2 a3 a4 a5 a6 hf; cases hf
  | succ n ih =>
    intro a0 a1 a2 a3 a4 a5 a6 hf
    rw [fX4_tells_17] at hf
    refine GG.iload C dX4_tells_17 6 rfl ?_
    refine GG.aload_n C dX4_tells_19 0 rfl ?_
    obtain ⟨c5, hf⟩ := gd_some hf
    refine GG.gx_X4_21 C rfl c5 dX4_tells_20 ?_
    refine GG.icmp_ge C (tgt := 79) dX4_tells_23 (by decide) (fun c6 => ?_) (fun c6 => ?_)
    · have hf := if_t hf c6
      refine GG.iload C dX4_tells_79 5 rfl ?_
      refine GG.aload_n C dX4_tells_81 0 rfl ?_
      refine GG.iload_n C dX4_tells_82 1 rfl ?_
      obtain ⟨v7, hv7, hf⟩ := obd_some hf
      refine GG.c_X4_71 C rfl (gX4_leftOut hv7) c5 ⟨Nat.le_of_ble_eq_true rfl, Nat.le_of_ble_eq_true rfl⟩ ⟨Nat.le_of_ble_eq_true rfl, Nat.le_of_ble_eq_true rfl⟩ (Nat.le_of_ble_eq_true rfl) dX4_tells_83 ?_
      refine GG.iconst C dX4_tells_86 ic_m1 ?_
      refine GG.ixor C dX4_tells_87 ?_
      refine GG.iand C dX4_tells_88 ?_
      refine GG.topi fun x8 hx8 => ?_
      have hf := ltb_s hx8 hf
      refine GG.istore C (lv' := [(5, .int x8), (0, .ref a0), (1, .int a1), (2, .int a2), (3, .int a3), (4, .ref a4), (6, .int a6)]) dX4_tells_89 (by decide) rfl ?_
      refine GG.iload C dX4_tells_91 0 rfl ?_
      refine GG.istore C (lv' := [(6, .int x8), (5, .int x8), (0, .ref a0), (1, .int a1), (2, .int a2), (3, .int a3), (4, .ref a4)]) dX4_tells_93 (by decide) rfl ?_
      refine GG.iconst C dX4_tells_95 ic_0 ?_
      refine GG.istore C (lv' := [(7, .int (nI 0)), (6, .int x8), (5, .int x8), (0, .ref a0), (1, .int a1), (2, .int a2), (3, .int a3), (4, .ref a4)]) dX4_tells_96 (by decide) rfl ?_
      refine GG.sub [3, 5, 6, 7, 2, 1, 0] rfl ?_
      exact gX4_tells_98 C E  FU _ _ _ _ _ _ _ hf
    · have hf := if_f hf c6
      refine GG.iload_n C dX4_tells_26 1 rfl ?_
      refine GG.iload C dX4_tells_27 6 rfl ?_
      refine GG.ishr C dX4_tells_29 ?_
      refine GG.iconst C dX4_tells_30 ic_1 ?_
      refine GG.iand C dX4_tells_31 ?_
      refine GG.iconst C dX4_tells_32 ic_1 ?_
      refine GG.icmp_ne C (tgt := 73) dX4_tells_33 (by decide) (fun c9 => ?_) (fun c9 => ?_)
      · have hf := if_f hf c9
        refine GG.iinc C (v := (a6 + (nI 1))) (lv' := [(6, .int (a6 + (nI 1))), (0, .ref a0), (1, .int a1), (2, .int a2), (3, .int a3), (4, .ref a4), (5, .int a5)]) dX4_tells_73 6 rfl (congrArg (a6 + ·) ic_1) (by decide) rfl ?_
        refine GG.goto C (tgt := 17) dX4_tells_76 (by decide) ?_
        refine GG.sub [1, 2, 3, 4, 5, 6, 0] rfl ?_
        exact ih _ _ _ _ _ _ _ hf
      · have hf := if_t hf c9
        refine GG.aload_n C dX4_tells_36 0 rfl ?_
        obtain ⟨r10, hr10, hf⟩ := obd_some hf
        refine GG.gx_X4_11 C rfl c5 hr10 dX4_tells_37 ?_
        refine GG.iload C dX4_tells_40 6 rfl ?_
        obtain ⟨r11, hr11, hf⟩ := obd_some hf
        refine GG.aald C 0 hr11 (by decide) dX4_tells_42 ?_
        obtain ⟨c12, hf⟩ := gd_some hf
        obtain ⟨v13, hv13, hf⟩ := obd_some hf
        refine GG.d_X4_50 C rfl hv13 ⟨Nat.le_of_ble_eq_true rfl, Nat.le_of_ble_eq_true rfl⟩ (Nat.le_of_ble_eq_true rfl) (Nat.le_of_ble_eq_true rfl) (Nat.le_of_ble_eq_true rfl) dX4_tells_43 ?_
        refine GG.iload_n C dX4_tells_46 3 rfl ?_
        refine GG.icmp_ne C (tgt := 73) dX4_tells_47 (by decide) (fun c14 => ?_) (fun c14 => ?_)
        · have hf := if_f hf c14
          refine GG.iinc C (v := (a6 + (nI 1))) (lv' := [(6, .int (a6 + (nI 1))), (0, .ref a0), (1, .int a1), (2, .int a2), (3, .int a3), (4, .ref a4), (5, .int a5)]) dX4_tells_73 6 rfl (congrArg (a6 + ·) ic_1) (by decide) rfl ?_
          refine GG.goto C (tgt := 17) dX4_tells_76 (by decide) ?_
          refine GG.sub [1, 2, 3, 4, 5, 6, 0] rfl ?_
          exact ih _ _ _ _ _ _ _ hf
        · have hf := if_t hf c14
          refine GG.aload_n C dX4_tells_50 0 rfl ?_
          obtain ⟨r15, hr15, hf⟩ := obd_some hf
          refine GG.gx_X4_11 C rfl c5 hr15 dX4_tells_51 ?_
          refine GG.iload C dX4_tells_54 6 rfl ?_
          obtain ⟨r16, hr16, hf⟩ := obd_some hf
          refine GG.aald C 0 hr16 (by decide) dX4_tells_56 ?_
          obtain ⟨c17, hf⟩ := gd_some hf
          refine GG.gx_X4_47 C rfl c17 dX4_tells_57 ?_
          refine GG.iload_n C dX4_tells_60 2 rfl ?_
          refine GG.icmp_ne C (tgt := 73) dX4_tells_61 (by decide) (fun c18 => ?_) (fun c18 => ?_)
          · have hf := if_f hf c18
            refine GG.iinc C (v := (a6 + (nI 1))) (lv' := [(6, .int (a6 + (nI 1))), (0, .ref a0), (1, .int a1), (2, .int a2), (3, .int a3), (4, .ref a4), (5, .int a5)]) dX4_tells_73 6 rfl (congrArg (a6 + ·) ic_1) (by decide) rfl ?_
            refine GG.goto C (tgt := 17) dX4_tells_76 (by decide) ?_
            refine GG.sub [1, 2, 3, 4, 5, 6, 0] rfl ?_
            exact ih _ _ _ _ _ _ _ hf
          · have hf := if_t hf c18
            refine GG.iload C dX4_tells_64 5 rfl ?_
            refine GG.iconst C dX4_tells_66 ic_1 ?_
            refine GG.iload C dX4_tells_67 6 rfl ?_
            refine GG.ishl C dX4_tells_69 ?_
            refine GG.ior C dX4_tells_70 ?_
            refine GG.topi fun x19 hx19 => ?_
            have hf := ltb_s hx19 hf
            refine GG.istore C (lv' := [(5, .int x19), (0, .ref a0), (1, .int a1), (2, .int a2), (3, .int a3), (4, .ref a4), (6, .int a6)]) dX4_tells_71 (by decide) rfl ?_
            refine GG.iinc C (v := (a6 + (nI 1))) (lv' := [(6, .int (a6 + (nI 1))), (5, .int x19), (0, .ref a0), (1, .int a1), (2, .int a2), (3, .int a3), (4, .ref a4)]) dX4_tells_73 6 rfl (congrArg (a6 + ·) ic_1) (by decide) rfl ?_
            refine GG.goto C (tgt := 17) dX4_tells_76 (by decide) ?_
            refine GG.sub [2, 3, 4, 5, 6, 1, 0] rfl ?_
            exact ih _ _ _ _ _ _ _ hf
theorem gX4_tells {K : gK} {S : Option MS}  {M : XS} {a0 : Nat} {a1 : Int32} {a2 : Int32} {a3 : Int32} {o : Int32} (hf : fX4_tells M a0 a1 a2 a3 = some o) : gMet K yX4_tells cX4_tells 9 (some Jvm.ClassFile.FieldType.int) rX4_tells [(.ref a0), (.int a1), (.int a2), (.int a3)] M S (some (.int o)) M S := by
  refine gMet.of pn_X4 (Nat.le_of_ble_eq_true rfl) fun X C E => ?_
  unfold fX4_tells at hf
  show GG K X 9 0 0 M S 0 [(0, .ref a0), (1, .int a1), (2, .int a2), (3, .int a3)] []
  refine GG.aload_n C dX4_tells_0 0 rfl ?_
  obtain ⟨c1, hf⟩ := gd_some hf
  obtain ⟨r2, hr2, hf⟩ := obd_some hf
  refine GG.gx_X4_11 C rfl c1 hr2 dX4_tells_1 ?_
  refine GG.iload_n C dX4_tells_4 2 rfl ?_
  obtain ⟨r3, hr3, hf⟩ := obd_some hf
  refine GG.aald C 0 hr3 (by decide) dX4_tells_5 ?_
  obtain ⟨c4, hf⟩ := gd_some hf
  refine GG.castS C (r := (RX8, TX8, 10)) c4 rfl q1193 dX4_tells_6 ?_
  refine GG.astore C (lv' := [(4, .ref r3), (0, .ref a0), (1, .int a1), (2, .int a2), (3, .int a3)]) dX4_tells_9 (by decide) rfl ?_
  refine GG.iconst C dX4_tells_11 ic_0 ?_
  refine GG.istore C (lv' := [(5, .int (nI 0)), (4, .ref r3), (0, .ref a0), (1, .int a1), (2, .int a2), (3, .int a3)]) dX4_tells_12 (by decide) rfl ?_
  refine GG.iconst C dX4_tells_14 ic_0 ?_
  refine GG.istore C (lv' := [(6, .int (nI 0)), (5, .int (nI 0)), (4, .ref r3), (0, .ref a0), (1, .int a1), (2, .int a2), (3, .int a3)]) dX4_tells_15 (by decide) rfl ?_
  refine GG.sub [3, 4, 5, 6, 2, 1, 0] rfl ?_
  exact gX4_tells_17 C E  FU _ _ _ _ _ _ _ hf
theorem gX0_lists_129 {K : gK} {X : gX} {S : Option MS} (C : gC K X cX0_lists 5 yX0_lists none rX0_lists)  {o : XS} (E : gE K X none o S rX0_lists.cells rX0_lists.slots) {k7 : XS → Nat → Int32 → Int32 → Option XS} (hk7 : ∀ (M : XS) (a0 : Nat) (a1 : Int32) (a2 : Int32), k7 M a0 a1 a2 = some o → GG K X 5 0 0 M S 7 [(0, .ref a0), (1, .int a1), (2, .int a2)] []) :
    ∀ (M : XS) (a0 : Nat) (a1 : Int32) (a2 : Int32) (a3 : Int32) (a4 : Int32), fX0_lists_129 k7 M a0 a1 a2 a3 a4 = some o → GG K X 5 0 0 M S 129 [(0, .ref a0), (1, .int a1), (2, .int a2), (3, .int a3), (4, .int a4)] [] := by
  intro M a0 a1 a2 a3 a4 hf
  unfold fX0_lists_129 at hf
  refine GG.aload_n C dX0_lists_129 0 rfl ?_
  obtain ⟨c37, hf⟩ := gd_some hf
  obtain ⟨r38, hr38, hf⟩ := obd_some hf
  refine GG.gx_X0_55 C rfl c37 hr38 dX0_lists_130 ?_
  refine GG.iload C dX0_lists_133 4 rfl ?_
  refine GG.iload_n C dX0_lists_135 3 rfl ?_
  obtain ⟨M39, hM39, hf⟩ := obd_some hf
  refine GG.iast C hM39 dX0_lists_136 ?_
  refine GG.aload_n C dX0_lists_137 0 rfl ?_
  obtain ⟨c40, hf⟩ := gd_some hf
  obtain ⟨r41, hr41, hf⟩ := obd_some hf
  refine GG.gx_X0_52 C rfl c40 hr41 dX0_lists_138 ?_
  refine GG.iload C dX0_lists_141 4 rfl ?_
  refine GG.iload_n C dX0_lists_143 2 rfl ?_
  obtain ⟨M42, hM42, hf⟩ := obd_some hf
  refine GG.iast C hM42 dX0_lists_144 ?_
  refine GG.aload_n C dX0_lists_145 0 rfl ?_
  refine GG.dup C dX0_lists_146 rfl ?_
  obtain ⟨c43, hf⟩ := gd_some hf
  refine GG.gx_X0_261 C rfl c43 dX0_lists_147 ?_
  refine GG.iconst C dX0_lists_150 ic_1 ?_
  refine GG.iadd C dX0_lists_151 ?_
  refine GG.px_X0_261 C rfl c43 dX0_lists_152 ?_
  refine GG.topM fun M44 hM44 => ?_
  have hf := ltb_s hM44 hf
  refine GG.iinc C (v := (a2 + (nI 1))) (lv' := [(2, .int (a2 + (nI 1))), (0, .ref a0), (1, .int a1), (3, .int a3), (4, .int a4)]) dX0_lists_155 2 rfl (congrArg (a2 + ·) ic_1) (by decide) rfl ?_
  refine GG.goto C (tgt := 7) dX0_lists_158 (by decide) ?_
  refine GG.sub [1, 2, 0] rfl ?_
  exact hk7 _ _ _ _ hf
theorem gX0_lists_73 {K : gK} {X : gX} {S : Option MS} (C : gC K X cX0_lists 5 yX0_lists none rX0_lists)  {o : XS} (E : gE K X none o S rX0_lists.cells rX0_lists.slots) {k7 : XS → Nat → Int32 → Int32 → Option XS} (hk7 : ∀ (M : XS) (a0 : Nat) (a1 : Int32) (a2 : Int32), k7 M a0 a1 a2 = some o → GG K X 5 0 0 M S 7 [(0, .ref a0), (1, .int a1), (2, .int a2)] []) :
    ∀ (n : Nat) (M : XS) (a0 : Nat) (a1 : Int32) (a2 : Int32) (a3 : Int32) (a4 : Int32), fX0_lists_73 k7 n M a0 a1 a2 a3 a4 = some o → GG K X 5 0 0 M S 73 [(0, .ref a0), (1, .int a1), (2, .int a2), (3, .int a3), (4, .int a4)] [] := by
  intro n
  induction n with
  | zero => intro M a0 a1 a2 a3 a4 hf; cases hf
  | succ n ih =>
    intro M a0 a1 a2 a3 a4 hf
    rw [fX0_lists_73] at hf
    refine GG.iload C dX0_lists_73 4 rfl ?_
    refine GG.if_le C (tgt := 129) dX0_lists_75 (by decide) (fun c23 => ?_) (fun c23 => ?_)
    · have hf := if_t hf c23
      refine GG.sub [0, 1, 2, 3, 4] rfl ?_
      exact gX0_lists_129 C E (hk7 := hk7) _ _ _ _ _ _ hf
    · have hf := if_f hf c23
      refine GG.aload_n C dX0_lists_78 0 rfl ?_
      obtain ⟨c24, hf⟩ := gd_some hf
      obtain ⟨r25, hr25, hf⟩ := obd_some hf
      refine GG.gx_X0_55 C rfl c24 hr25 dX0_lists_79 ?_
      refine GG.iload C dX0_lists_82 4 rfl ?_
      refine GG.iconst C dX0_lists_84 ic_1 ?_
      refine GG.isub C dX0_lists_85 ?_
      obtain ⟨v26, hv26, hf⟩ := obd_some hf
      refine GG.iald C hv26 dX0_lists_86 ?_
      refine GG.iload_n C dX0_lists_87 3 rfl ?_
      refine GG.icmp_le C (tgt := 129) dX0_lists_88 (by decide) (fun c27 => ?_) (fun c27 => ?_)
      · have hf := if_t hf c27
        refine GG.sub [0, 1, 2, 3, 4] rfl ?_
        exact gX0_lists_129 C E (hk7 := hk7) _ _ _ _ _ _ hf
      · have hf := if_f hf c27
        refine GG.aload_n C dX0_lists_91 0 rfl ?_
        obtain ⟨r28, hr28, hf⟩ := obd_some hf
        refine GG.gx_X0_55 C rfl c24 hr28 dX0_lists_92 ?_
        refine GG.iload C dX0_lists_95 4 rfl ?_
        refine GG.aload_n C dX0_lists_97 0 rfl ?_
        obtain ⟨r29, hr29, hf⟩ := obd_some hf
        refine GG.gx_X0_55 C rfl c24 hr29 dX0_lists_98 ?_
        refine GG.iload C dX0_lists_101 4 rfl ?_
        refine GG.iconst C dX0_lists_103 ic_1 ?_
        refine GG.isub C dX0_lists_104 ?_
        obtain ⟨v30, hv30, hf⟩ := obd_some hf
        refine GG.iald C hv30 dX0_lists_105 ?_
        obtain ⟨M31, hM31, hf⟩ := obd_some hf
        refine GG.iast C hM31 dX0_lists_106 ?_
        refine GG.aload_n C dX0_lists_107 0 rfl ?_
        obtain ⟨c32, hf⟩ := gd_some hf
        obtain ⟨r33, hr33, hf⟩ := obd_some hf
        refine GG.gx_X0_52 C rfl c32 hr33 dX0_lists_108 ?_
        refine GG.iload C dX0_lists_111 4 rfl ?_
        refine GG.aload_n C dX0_lists_113 0 rfl ?_
        obtain ⟨r34, hr34, hf⟩ := obd_some hf
        refine GG.gx_X0_52 C rfl c32 hr34 dX0_lists_114 ?_
        refine GG.iload C dX0_lists_117 4 rfl ?_
        refine GG.iconst C dX0_lists_119 ic_1 ?_
        refine GG.isub C dX0_lists_120 ?_
        obtain ⟨v35, hv35, hf⟩ := obd_some hf
        refine GG.iald C hv35 dX0_lists_121 ?_
        obtain ⟨M36, hM36, hf⟩ := obd_some hf
        refine GG.iast C hM36 dX0_lists_122 ?_
        refine GG.iinc C (v := (a4 + (-1 : Int32))) (lv' := [(4, .int (a4 + (-1 : Int32))), (0, .ref a0), (1, .int a1), (2, .int a2), (3, .int a3)]) dX0_lists_123 4 rfl (congrArg (a4 + ·) ic_m1) (by decide) rfl ?_
        refine GG.goto C (tgt := 73) dX0_lists_126 (by decide) ?_
        refine GG.sub [1, 2, 3, 4, 0] rfl ?_
        exact ih _ _ _ _ _ _ hf
theorem gX0_lists_7 {K : gK} {X : gX} {S : Option MS} (C : gC K X cX0_lists 5 yX0_lists none rX0_lists)  {o : XS} (E : gE K X none o S rX0_lists.cells rX0_lists.slots)   :
    ∀ (n : Nat) (M : XS) (a0 : Nat) (a1 : Int32) (a2 : Int32), fX0_lists_7  n M a0 a1 a2 = some o → GG K X 5 0 0 M S 7 [(0, .ref a0), (1, .int a1), (2, .int a2)] [] := by
  intro n
  induction n with
  | zero => intro M a0 a1 a2 hf; cases hf
  | succ n ih =>
    intro M a0 a1 a2 hf
    rw [fX0_lists_7] at hf
    refine GG.iload_n C dX0_lists_7 2 rfl ?_
    refine GG.aload_n C dX0_lists_8 0 rfl ?_
    obtain ⟨c3, hf⟩ := gd_some hf
    obtain ⟨r4, hr4, hf⟩ := obd_some hf
    refine GG.gx_X0_37 C rfl c3 hr4 dX0_lists_9 ?_
    obtain ⟨c5, hf⟩ := gd_some hf
    refine GG.gx_X0_149 C rfl c5 dX0_lists_12 ?_
    refine GG.icmp_ge C (tgt := 161) dX0_lists_15 (by decide) (fun c6 => ?_) (fun c6 => ?_)
    · have hf := if_t hf c6
      have hf := Option.some.inj hf
      subst hf
      exact GG.vret C E dX0_lists_161
    · have hf := if_f hf c6
      refine GG.iload_n C dX0_lists_18 1 rfl ?_
      refine GG.iload_n C dX0_lists_19 2 rfl ?_
      refine GG.ishr C dX0_lists_20 ?_
      refine GG.iconst C dX0_lists_21 ic_1 ?_
      refine GG.iand C dX0_lists_22 ?_
      refine GG.if_eq C (tgt := 155) dX0_lists_23 (by decide) (fun c7 => ?_) (fun c7 => ?_)
      · have hf := if_t hf c7
        refine GG.iinc C (v := (a2 + (nI 1))) (lv' := [(2, .int (a2 + (nI 1))), (0, .ref a0), (1, .int a1)]) dX0_lists_155 2 rfl (congrArg (a2 + ·) ic_1) (by decide) rfl ?_
        refine GG.goto C (tgt := 7) dX0_lists_158 (by decide) ?_
        refine GG.sub [1, 2, 0] rfl ?_
        exact ih _ _ _ _ hf
      · have hf := if_f hf c7
        refine GG.aload_n C dX0_lists_26 0 rfl ?_
        obtain ⟨r8, hr8, hf⟩ := obd_some hf
        refine GG.gx_X0_37 C rfl c3 hr8 dX0_lists_27 ?_
        obtain ⟨c9, hf⟩ := gd_some hf
        obtain ⟨r10, hr10, hf⟩ := obd_some hf
        refine GG.gx_X0_208 C rfl c9 hr10 dX0_lists_30 ?_
        refine GG.iload_n C dX0_lists_33 2 rfl ?_
        obtain ⟨r11, hr11, hf⟩ := obd_some hf
        refine GG.aald C 0 hr11 (by decide) dX0_lists_34 ?_
        obtain ⟨c12, hf⟩ := gd_some hf
        obtain ⟨v13, hv13, hf⟩ := obd_some hf
        refine GG.d_X0_212 C rfl hv13 ⟨Nat.le_of_ble_eq_true rfl, Nat.le_of_ble_eq_true rfl⟩ (Nat.le_of_ble_eq_true rfl) (Nat.le_of_ble_eq_true rfl) (Nat.le_of_ble_eq_true rfl) dX0_lists_35 ?_
        refine GG.if_ne C (tgt := 155) dX0_lists_38 (by decide) (fun c14 => ?_) (fun c14 => ?_)
        · have hf := if_f hf c14
          refine GG.iinc C (v := (a2 + (nI 1))) (lv' := [(2, .int (a2 + (nI 1))), (0, .ref a0), (1, .int a1)]) dX0_lists_155 2 rfl (congrArg (a2 + ·) ic_1) (by decide) rfl ?_
          refine GG.goto C (tgt := 7) dX0_lists_158 (by decide) ?_
          refine GG.sub [1, 2, 0] rfl ?_
          exact ih _ _ _ _ hf
        · have hf := if_t hf c14
          refine GG.aload_n C dX0_lists_41 0 rfl ?_
          obtain ⟨r15, hr15, hf⟩ := obd_some hf
          refine GG.gx_X0_37 C rfl c3 hr15 dX0_lists_42 ?_
          refine GG.iload_n C dX0_lists_45 1 rfl ?_
          refine GG.iload_n C dX0_lists_46 2 rfl ?_
          obtain ⟨c16, hf⟩ := gd_some hf
          obtain ⟨v17, hv17, hf⟩ := obd_some hf
          refine GG.c_X0_264 C rfl (gX4_isGone hv17) c16 ⟨Nat.le_of_ble_eq_true rfl, Nat.le_of_ble_eq_true rfl⟩ ⟨Nat.le_of_ble_eq_true rfl, Nat.le_of_ble_eq_true rfl⟩ (Nat.le_of_ble_eq_true rfl) dX0_lists_47 ?_
          refine GG.if_eq C (tgt := 56) dX0_lists_50 (by decide) (fun c18 => ?_) (fun c18 => ?_)
          · have hf := if_t hf c18
            refine GG.aload_n C dX0_lists_56 0 rfl ?_
            obtain ⟨r19, hr19, hf⟩ := obd_some hf
            refine GG.gx_X0_37 C rfl c3 hr19 dX0_lists_57 ?_
            refine GG.iload_n C dX0_lists_60 1 rfl ?_
            refine GG.iload_n C dX0_lists_61 2 rfl ?_
            refine GG.iconst C dX0_lists_62 ic_3 ?_
            obtain ⟨c20, hf⟩ := gd_some hf
            obtain ⟨v21, hv21, hf⟩ := obd_some hf
            refine GG.c_X0_267 C rfl (gX4_tells hv21) c20 ⟨Nat.le_of_ble_eq_true rfl, Nat.le_of_ble_eq_true rfl⟩ ⟨Nat.le_of_ble_eq_true rfl, Nat.le_of_ble_eq_true rfl⟩ (Nat.le_of_ble_eq_true rfl) dX0_lists_63 ?_
            refine GG.istore_n C (lv' := [(3, .int v21), (0, .ref a0), (1, .int a1), (2, .int a2)]) dX0_lists_66 (by decide) rfl ?_
            refine GG.aload_n C dX0_lists_67 1 rfl ?_
            refine GG.gx_X0_261 C rfl c3 dX0_lists_68 ?_
            refine GG.topi fun x22 hx22 => ?_
            have hf := ltb_s hx22 hf
            refine GG.istore C (lv' := [(4, .int x22), (3, .int v21), (0, .ref a0), (1, .int a1), (2, .int a2)]) dX0_lists_71 (by decide) rfl ?_
            refine GG.sub [2, 3, 4, 1, 0] rfl ?_
            exact gX0_lists_73 C E (hk7 := ih) FU _ _ _ _ _ _ hf
          · have hf := if_f hf c18
            refine GG.goto C (tgt := 155) dX0_lists_53 (by decide) ?_
            refine GG.iinc C (v := (a2 + (nI 1))) (lv' := [(2, .int (a2 + (nI 1))), (0, .ref a0), (1, .int a1)]) dX0_lists_155 2 rfl (congrArg (a2 + ·) ic_1) (by decide) rfl ?_
            refine GG.goto C (tgt := 7) dX0_lists_158 (by decide) ?_
            refine GG.sub [1, 2, 0] rfl ?_
            exact ih _ _ _ _ hf
theorem gX0_lists {K : gK} {S : Option MS}  {M : XS} {a0 : Nat} {a1 : Int32} {o : XS} (hf : fX0_lists M a0 a1 = some o) : gMet K yX0_lists cX0_lists 5 none rX0_lists [(.ref a0), (.int a1)] M S none o S := by
  refine gMet.of pn_X0 (Nat.le_of_ble_eq_true rfl) fun X C E => ?_
  unfold fX0_lists at hf
  show GG K X 5 0 0 M S 0 [(0, .ref a0), (1, .int a1)] []
  refine GG.aload_n C dX0_lists_0 0 rfl ?_
  refine GG.iconst C dX0_lists_1 ic_0 ?_
  obtain ⟨c1, hf⟩ := gd_some hf
  refine GG.px_X0_261 C rfl c1 dX0_lists_2 ?_
  refine GG.topM fun M2 hM2 => ?_
  have hf := ltb_s hM2 hf
  refine GG.iconst C dX0_lists_5 ic_0 ?_
  refine GG.istore_n C (lv' := [(2, .int (nI 0)), (0, .ref a0), (1, .int a1)]) dX0_lists_6 (by decide) rfl ?_
  refine GG.sub [1, 2, 0] rfl ?_
  exact gX0_lists_7 C E  FU _ _ _ _ hf
theorem gX0_size {K : gK} {S : Option MS}  {M : XS} {a0 : Nat} {a1 : Int32} {o : (Int32 × XS)} (hf : fX0_size M a0 a1 = some o) : gMet K yX0_size cX0_size 3 (some Jvm.ClassFile.FieldType.int) rX0_size [(.ref a0), (.int a1)] M S (some (.int o.1)) o.2 S := by
  refine gMet.of pn_X0 (Nat.le_of_ble_eq_true rfl) fun X C E => ?_
  unfold fX0_size at hf
  show GG K X 3 0 0 M S 0 [(0, .ref a0), (1, .int a1)] []
  refine GG.aload_n C dX0_size_0 0 rfl ?_
  refine GG.iload_n C dX0_size_1 1 rfl ?_
  obtain ⟨c1, hf⟩ := gd_some hf
  obtain ⟨v2, hv2, hf⟩ := obd_some hf
  refine GG.c_X0_270 C rfl (gX0_wrongSet hv2) c1 ⟨Nat.le_of_ble_eq_true rfl, Nat.le_of_ble_eq_true rfl⟩ ⟨Nat.le_of_ble_eq_true rfl, Nat.le_of_ble_eq_true rfl⟩ (Nat.le_of_ble_eq_true rfl) dX0_size_2 ?_
  refine GG.istore_n C (lv' := [(2, .int v2), (0, .ref a0), (1, .int a1)]) dX0_size_5 (by decide) rfl ?_
  refine GG.iload_n C dX0_size_6 0 rfl ?_
  refine GG.if_le C (tgt := 16) dX0_size_7 (by decide) (fun c3 => ?_) (fun c3 => ?_)
  · have hf := if_t hf c3
    refine GG.aload_n C dX0_size_16 1 rfl ?_
    refine GG.iload_n C dX0_size_17 2 rfl ?_
    obtain ⟨p4, hp4, hf⟩ := obd_some hf
    refine GG.c_X0_273 C rfl (gX0_lists hp4) c1 ⟨Nat.le_of_ble_eq_true rfl, Nat.le_of_ble_eq_true rfl⟩ ⟨Nat.le_of_ble_eq_true rfl, Nat.le_of_ble_eq_true rfl⟩ (Nat.le_of_ble_eq_true rfl) dX0_size_18 ?_
    refine GG.aload_n C dX0_size_21 1 rfl ?_
    refine GG.aload_n C dX0_size_22 1 rfl ?_
    obtain ⟨c5, hf⟩ := gd_some hf
    refine GG.gx_X0_261 C rfl c5 dX0_size_23 ?_
    obtain ⟨p6, hp6, hf⟩ := obd_some hf
    refine GG.c_X0_197 C rfl (gX0_gives hp6) c5 ⟨Nat.le_of_ble_eq_true rfl, Nat.le_of_ble_eq_true rfl⟩ ⟨Nat.le_of_ble_eq_true rfl, Nat.le_of_ble_eq_true rfl⟩ (Nat.le_of_ble_eq_true rfl) dX0_size_26 ?_
    have hf := Option.some.inj hf
    subst hf
    exact GG.iret C E dX0_size_29
  · have hf := if_f hf c3
    refine GG.aload_n C dX0_size_10 1 rfl ?_
    refine GG.iload_n C dX0_size_11 0 rfl ?_
    obtain ⟨p7, hp7, hf⟩ := obd_some hf
    refine GG.c_X0_124 C rfl (gX0_none hp7) c1 ⟨Nat.le_of_ble_eq_true rfl, Nat.le_of_ble_eq_true rfl⟩ ⟨Nat.le_of_ble_eq_true rfl, Nat.le_of_ble_eq_true rfl⟩ (Nat.le_of_ble_eq_true rfl) dX0_size_12 ?_
    have hf := Option.some.inj hf
    subst hf
    exact GG.iret C E dX0_size_15
theorem gX0_thing {K : gK} {S : Option MS}  {M : XS} {a0 : Nat} {a1 : Int32} {a2 : Int32} {o : (Int32 × XS)} (hf : fX0_thing M a0 a1 a2 = some o) : gMet K yX0_thing cX0_thing 4 (some Jvm.ClassFile.FieldType.int) rX0_thing [(.ref a0), (.int a1), (.int a2)] M S (some (.int o.1)) o.2 S := by
  refine gMet.of pn_X0 (Nat.le_of_ble_eq_true rfl) fun X C E => ?_
  unfold fX0_thing at hf
  show GG K X 4 0 0 M S 0 [(0, .ref a0), (1, .int a1), (2, .int a2)] []
  refine GG.aload_n C dX0_thing_0 0 rfl ?_
  refine GG.iload_n C dX0_thing_1 1 rfl ?_
  obtain ⟨c1, hf⟩ := gd_some hf
  obtain ⟨v2, hv2, hf⟩ := obd_some hf
  refine GG.c_X0_270 C rfl (gX0_wrongSet hv2) c1 ⟨Nat.le_of_ble_eq_true rfl, Nat.le_of_ble_eq_true rfl⟩ ⟨Nat.le_of_ble_eq_true rfl, Nat.le_of_ble_eq_true rfl⟩ (Nat.le_of_ble_eq_true rfl) dX0_thing_2 ?_
  refine GG.istore_n C (lv' := [(3, .int v2), (0, .ref a0), (1, .int a1), (2, .int a2)]) dX0_thing_5 (by decide) rfl ?_
  refine GG.iload_n C dX0_thing_6 0 rfl ?_
  refine GG.if_le C (tgt := 16) dX0_thing_7 (by decide) (fun c3 => ?_) (fun c3 => ?_)
  · have hf := if_t hf c3
    refine GG.aload_n C dX0_thing_16 1 rfl ?_
    refine GG.iload_n C dX0_thing_17 2 rfl ?_
    obtain ⟨p4, hp4, hf⟩ := obd_some hf
    refine GG.c_X0_273 C rfl (gX0_lists hp4) c1 ⟨Nat.le_of_ble_eq_true rfl, Nat.le_of_ble_eq_true rfl⟩ ⟨Nat.le_of_ble_eq_true rfl, Nat.le_of_ble_eq_true rfl⟩ (Nat.le_of_ble_eq_true rfl) dX0_thing_18 ?_
    refine GG.iload_n C dX0_thing_21 3 rfl ?_
    refine GG.if_lt C (tgt := 33) dX0_thing_22 (by decide) (fun c5 => ?_) (fun c5 => ?_)
    · have hf := if_t hf c5
      refine GG.aload_n C dX0_thing_33 1 rfl ?_
      refine GG.bipush C dX0_thing_34 bp_8 ?_
      obtain ⟨c6, hf⟩ := gd_some hf
      obtain ⟨p7, hp7, hf⟩ := obd_some hf
      refine GG.c_X0_124 C rfl (gX0_none hp7) c6 ⟨Nat.le_of_ble_eq_true rfl, Nat.le_of_ble_eq_true rfl⟩ ⟨Nat.le_of_ble_eq_true rfl, Nat.le_of_ble_eq_true rfl⟩ (Nat.le_of_ble_eq_true rfl) dX0_thing_36 ?_
      refine GG.goto C (tgt := 52) dX0_thing_39 (by decide) ?_
      have hf := Option.some.inj hf
      subst hf
      exact GG.iret C E dX0_thing_52
    · have hf := if_f hf c5
      refine GG.iload_n C dX0_thing_25 3 rfl ?_
      refine GG.aload_n C dX0_thing_26 1 rfl ?_
      obtain ⟨c8, hf⟩ := gd_some hf
      refine GG.gx_X0_261 C rfl c8 dX0_thing_27 ?_
      refine GG.icmp_lt C (tgt := 42) dX0_thing_30 (by decide) (fun c9 => ?_) (fun c9 => ?_)
      · have hf := if_t hf c9
        refine GG.aload_n C dX0_thing_42 1 rfl ?_
        refine GG.aload_n C dX0_thing_43 1 rfl ?_
        obtain ⟨r10, hr10, hf⟩ := obd_some hf
        refine GG.gx_X0_52 C rfl c8 hr10 dX0_thing_44 ?_
        refine GG.iload_n C dX0_thing_47 3 rfl ?_
        obtain ⟨v11, hv11, hf⟩ := obd_some hf
        refine GG.iald C hv11 dX0_thing_48 ?_
        obtain ⟨p12, hp12, hf⟩ := obd_some hf
        refine GG.c_X0_197 C rfl (gX0_gives hp12) c8 ⟨Nat.le_of_ble_eq_true rfl, Nat.le_of_ble_eq_true rfl⟩ ⟨Nat.le_of_ble_eq_true rfl, Nat.le_of_ble_eq_true rfl⟩ (Nat.le_of_ble_eq_true rfl) dX0_thing_49 ?_
        have hf := Option.some.inj hf
        subst hf
        exact GG.iret C E dX0_thing_52
      · have hf := if_f hf c9
        refine GG.aload_n C dX0_thing_33 1 rfl ?_
        refine GG.bipush C dX0_thing_34 bp_8 ?_
        obtain ⟨p13, hp13, hf⟩ := obd_some hf
        refine GG.c_X0_124 C rfl (gX0_none hp13) c8 ⟨Nat.le_of_ble_eq_true rfl, Nat.le_of_ble_eq_true rfl⟩ ⟨Nat.le_of_ble_eq_true rfl, Nat.le_of_ble_eq_true rfl⟩ (Nat.le_of_ble_eq_true rfl) dX0_thing_36 ?_
        refine GG.goto C (tgt := 52) dX0_thing_39 (by decide) ?_
        have hf := Option.some.inj hf
        subst hf
        exact GG.iret C E dX0_thing_52
  · have hf := if_f hf c3
    refine GG.aload_n C dX0_thing_10 1 rfl ?_
    refine GG.iload_n C dX0_thing_11 0 rfl ?_
    obtain ⟨p14, hp14, hf⟩ := obd_some hf
    refine GG.c_X0_124 C rfl (gX0_none hp14) c1 ⟨Nat.le_of_ble_eq_true rfl, Nat.le_of_ble_eq_true rfl⟩ ⟨Nat.le_of_ble_eq_true rfl, Nat.le_of_ble_eq_true rfl⟩ (Nat.le_of_ble_eq_true rfl) dX0_thing_12 ?_
    have hf := Option.some.inj hf
    subst hf
    exact GG.iret C E dX0_thing_15
theorem gX0_placeOf_2 {K : gK} {X : gX} {S : Option MS} {M : XS} (C : gC K X cX0_placeOf 3 yX0_placeOf (some Jvm.ClassFile.FieldType.int) rX0_placeOf)  {o : Int32} (E : gE K X (some (.int o)) M S rX0_placeOf.cells rX0_placeOf.slots)   :
    ∀ (n : Nat) (a0 : Nat) (a1 : Int32) (a2 : Int32), fX0_placeOf_2 M n a0 a1 a2 = some o → GG K X 3 0 0 M S 2 [(0, .ref a0), (1, .int a1), (2, .int a2)] [] := by
  intro n
  induction n with
  | zero => intro a0 a1 a2 hf; cases hf
  | succ n ih =>
    intro a0 a1 a2 hf
    rw [fX0_placeOf_2] at hf
    refine GG.iload_n C dX0_placeOf_2 2 rfl ?_
    refine GG.aload_n C dX0_placeOf_3 0 rfl ?_
    obtain ⟨c1, hf⟩ := gd_some hf
    refine GG.gx_X0_261 C rfl c1 dX0_placeOf_4 ?_
    refine GG.icmp_ge C (tgt := 28) dX0_placeOf_7 (by decide) (fun c2 => ?_) (fun c2 => ?_)
    · have hf := if_t hf c2
      refine GG.iconst C dX0_placeOf_28 ic_m1 ?_
      have hf := Option.some.inj hf
      subst hf
      exact GG.iret C E dX0_placeOf_29
    · have hf := if_f hf c2
      refine GG.aload_n C dX0_placeOf_10 0 rfl ?_
      obtain ⟨r3, hr3, hf⟩ := obd_some hf
      refine GG.gx_X0_52 C rfl c1 hr3 dX0_placeOf_11 ?_
      refine GG.iload_n C dX0_placeOf_14 2 rfl ?_
      obtain ⟨v4, hv4, hf⟩ := obd_some hf
      refine GG.iald C hv4 dX0_placeOf_15 ?_
      refine GG.iload_n C dX0_placeOf_16 1 rfl ?_
      refine GG.icmp_ne C (tgt := 22) dX0_placeOf_17 (by decide) (fun c5 => ?_) (fun c5 => ?_)
      · have hf := if_f hf c5
        refine GG.iinc C (v := (a2 + (nI 1))) (lv' := [(2, .int (a2 + (nI 1))), (0, .ref a0), (1, .int a1)]) dX0_placeOf_22 2 rfl (congrArg (a2 + ·) ic_1) (by decide) rfl ?_
        refine GG.goto C (tgt := 2) dX0_placeOf_25 (by decide) ?_
        refine GG.sub [1, 2, 0] rfl ?_
        exact ih _ _ _ hf
      · have hf := if_t hf c5
        refine GG.iload_n C dX0_placeOf_20 2 rfl ?_
        have hf := Option.some.inj hf
        subst hf
        exact GG.iret C E dX0_placeOf_21
theorem gX0_placeOf {K : gK} {S : Option MS}  {M : XS} {a0 : Nat} {a1 : Int32} {o : Int32} (hf : fX0_placeOf M a0 a1 = some o) : gMet K yX0_placeOf cX0_placeOf 3 (some Jvm.ClassFile.FieldType.int) rX0_placeOf [(.ref a0), (.int a1)] M S (some (.int o)) M S := by
  refine gMet.of pn_X0 (Nat.le_of_ble_eq_true rfl) fun X C E => ?_
  unfold fX0_placeOf at hf
  show GG K X 3 0 0 M S 0 [(0, .ref a0), (1, .int a1)] []
  refine GG.iconst C dX0_placeOf_0 ic_0 ?_
  refine GG.istore_n C (lv' := [(2, .int (nI 0)), (0, .ref a0), (1, .int a1)]) dX0_placeOf_1 (by decide) rfl ?_
  refine GG.sub [1, 2, 0] rfl ?_
  exact gX0_placeOf_2 C E  FU _ _ _ hf
theorem gX0_wrongThing {K : gK} {S : Option MS}  {M : XS} {a0 : Nat} {a1 : Int32} {a2 : Int32} {o : (Int32 × XS)} (hf : fX0_wrongThing M a0 a1 a2 = some o) : gMet K yX0_wrongThing cX0_wrongThing 3 (some Jvm.ClassFile.FieldType.int) rX0_wrongThing [(.ref a0), (.int a1), (.int a2)] M S (some (.int o.1)) o.2 S := by
  refine gMet.of pn_X0 (Nat.le_of_ble_eq_true rfl) fun X C E => ?_
  unfold fX0_wrongThing at hf
  show GG K X 3 0 0 M S 0 [(0, .ref a0), (1, .int a1), (2, .int a2)] []
  refine GG.aload_n C dX0_wrongThing_0 0 rfl ?_
  refine GG.iload_n C dX0_wrongThing_1 1 rfl ?_
  obtain ⟨c1, hf⟩ := gd_some hf
  obtain ⟨v2, hv2, hf⟩ := obd_some hf
  refine GG.c_X0_251 C rfl (gX0_isSet hv2) c1 ⟨Nat.le_of_ble_eq_true rfl, Nat.le_of_ble_eq_true rfl⟩ ⟨Nat.le_of_ble_eq_true rfl, Nat.le_of_ble_eq_true rfl⟩ (Nat.le_of_ble_eq_true rfl) dX0_wrongThing_2 ?_
  refine GG.if_eq C (tgt := 17) dX0_wrongThing_5 (by decide) (fun c3 => ?_) (fun c3 => ?_)
  · have hf := if_t hf c3
    refine GG.iconst C dX0_wrongThing_17 ic_2 ?_
    have hf := Option.some.inj hf
    subst hf
    exact GG.iret C E dX0_wrongThing_18
  · have hf := if_f hf c3
    refine GG.aload_n C dX0_wrongThing_8 0 rfl ?_
    refine GG.iload_n C dX0_wrongThing_9 2 rfl ?_
    refine GG.i2l C dX0_wrongThing_10 ?_
    obtain ⟨v4, hv4, hf⟩ := obd_some hf
    refine GG.c_X0_224 C rfl (gX0_isChange hv4) c1 ⟨Nat.le_of_ble_eq_true rfl, Nat.le_of_ble_eq_true rfl⟩ ⟨Nat.le_of_ble_eq_true rfl, Nat.le_of_ble_eq_true rfl⟩ (Nat.le_of_ble_eq_true rfl) dX0_wrongThing_11 ?_
    refine GG.if_ne C (tgt := 19) dX0_wrongThing_14 (by decide) (fun c5 => ?_) (fun c5 => ?_)
    · have hf := if_f hf c5
      refine GG.aload_n C dX0_wrongThing_19 0 rfl ?_
      obtain ⟨r6, hr6, hf⟩ := obd_some hf
      refine GG.gx_X0_37 C rfl c1 hr6 dX0_wrongThing_20 ?_
      refine GG.iload_n C dX0_wrongThing_23 1 rfl ?_
      obtain ⟨c7, hf⟩ := gd_some hf
      obtain ⟨v8, hv8, hf⟩ := obd_some hf
      refine GG.c_X0_254 C rfl (gX4_holds hv8) c7 ⟨Nat.le_of_ble_eq_true rfl, Nat.le_of_ble_eq_true rfl⟩ ⟨Nat.le_of_ble_eq_true rfl, Nat.le_of_ble_eq_true rfl⟩ (Nat.le_of_ble_eq_true rfl) dX0_wrongThing_24 ?_
      refine GG.if_ne C (tgt := 33) dX0_wrongThing_27 (by decide) (fun c9 => ?_) (fun c9 => ?_)
      · have hf := if_f hf c9
        refine GG.aload_n C dX0_wrongThing_33 0 rfl ?_
        refine GG.iload_n C dX0_wrongThing_34 1 rfl ?_
        obtain ⟨p10, hp10, hf⟩ := obd_some hf
        refine GG.c_X0_273 C rfl (gX0_lists hp10) c1 ⟨Nat.le_of_ble_eq_true rfl, Nat.le_of_ble_eq_true rfl⟩ ⟨Nat.le_of_ble_eq_true rfl, Nat.le_of_ble_eq_true rfl⟩ (Nat.le_of_ble_eq_true rfl) dX0_wrongThing_35 ?_
        refine GG.aload_n C dX0_wrongThing_38 0 rfl ?_
        refine GG.iload_n C dX0_wrongThing_39 2 rfl ?_
        obtain ⟨c11, hf⟩ := gd_some hf
        obtain ⟨v12, hv12, hf⟩ := obd_some hf
        refine GG.c_X0_276 C rfl (gX0_placeOf hv12) c11 ⟨Nat.le_of_ble_eq_true rfl, Nat.le_of_ble_eq_true rfl⟩ ⟨Nat.le_of_ble_eq_true rfl, Nat.le_of_ble_eq_true rfl⟩ (Nat.le_of_ble_eq_true rfl) dX0_wrongThing_40 ?_
        refine GG.iconst C dX0_wrongThing_43 ic_m1 ?_
        refine GG.icmp_ne C (tgt := 52) dX0_wrongThing_44 (by decide) (fun c13 => ?_) (fun c13 => ?_)
        · have hf := if_f hf c13
          refine GG.iconst C dX0_wrongThing_52 ic_0 ?_
          have hf := Option.some.inj hf
          subst hf
          exact GG.iret C E dX0_wrongThing_53
        · have hf := if_t hf c13
          refine GG.bipush C dX0_wrongThing_47 bp_8 ?_
          refine GG.goto C (tgt := 53) dX0_wrongThing_49 (by decide) ?_
          have hf := Option.some.inj hf
          subst hf
          exact GG.iret C E dX0_wrongThing_53
      · have hf := if_t hf c9
        refine GG.bipush C dX0_wrongThing_30 bp_9 ?_
        have hf := Option.some.inj hf
        subst hf
        exact GG.iret C E dX0_wrongThing_32
    · have hf := if_t hf c5
      refine GG.iconst C dX0_wrongThing_17 ic_2 ?_
      have hf := Option.some.inj hf
      subst hf
      exact GG.iret C E dX0_wrongThing_18
theorem gX0_says {K : gK} {S : Option MS}  {M : XS} {a0 : Nat} {a1 : Int32} {a2 : Int32} {o : (Int32 × XS)} (hf : fX0_says M a0 a1 a2 = some o) : gMet K yX0_says cX0_says 4 (some Jvm.ClassFile.FieldType.int) rX0_says [(.ref a0), (.int a1), (.int a2)] M S (some (.int o.1)) o.2 S := by
  refine gMet.of pn_X0 (Nat.le_of_ble_eq_true rfl) fun X C E => ?_
  unfold fX0_says at hf
  show GG K X 4 0 0 M S 0 [(0, .ref a0), (1, .int a1), (2, .int a2)] []
  refine GG.aload_n C dX0_says_0 0 rfl ?_
  refine GG.iload_n C dX0_says_1 1 rfl ?_
  refine GG.iload_n C dX0_says_2 2 rfl ?_
  obtain ⟨c1, hf⟩ := gd_some hf
  obtain ⟨p2, hp2, hf⟩ := obd_some hf
  refine GG.c_X0_279 C rfl (gX0_wrongThing hp2) c1 ⟨Nat.le_of_ble_eq_true rfl, Nat.le_of_ble_eq_true rfl⟩ ⟨Nat.le_of_ble_eq_true rfl, Nat.le_of_ble_eq_true rfl⟩ (Nat.le_of_ble_eq_true rfl) dX0_says_3 ?_
  refine GG.istore_n C (lv' := [(3, .int p2.1), (0, .ref a0), (1, .int a1), (2, .int a2)]) dX0_says_6 (by decide) rfl ?_
  refine GG.iload_n C dX0_says_7 0 rfl ?_
  refine GG.if_le C (tgt := 19) dX0_says_8 (by decide) (fun c3 => ?_) (fun c3 => ?_)
  · have hf := if_t hf c3
    refine GG.aload_n C dX0_says_19 1 rfl ?_
    refine GG.aload_n C dX0_says_20 1 rfl ?_
    obtain ⟨c4, hf⟩ := gd_some hf
    obtain ⟨r5, hr5, hf⟩ := obd_some hf
    refine GG.gx_X0_37 C rfl c4 hr5 dX0_says_21 ?_
    refine GG.iload_n C dX0_says_24 2 rfl ?_
    refine GG.iload_n C dX0_says_25 3 rfl ?_
    refine GG.iconst C dX0_says_26 ic_2 ?_
    obtain ⟨c6, hf⟩ := gd_some hf
    obtain ⟨v7, hv7, hf⟩ := obd_some hf
    refine GG.c_X0_267 C rfl (gX4_tells hv7) c6 ⟨Nat.le_of_ble_eq_true rfl, Nat.le_of_ble_eq_true rfl⟩ ⟨Nat.le_of_ble_eq_true rfl, Nat.le_of_ble_eq_true rfl⟩ (Nat.le_of_ble_eq_true rfl) dX0_says_27 ?_
    obtain ⟨p8, hp8, hf⟩ := obd_some hf
    refine GG.c_X0_197 C rfl (gX0_gives hp8) c4 ⟨Nat.le_of_ble_eq_true rfl, Nat.le_of_ble_eq_true rfl⟩ ⟨Nat.le_of_ble_eq_true rfl, Nat.le_of_ble_eq_true rfl⟩ (Nat.le_of_ble_eq_true rfl) dX0_says_30 ?_
    have hf := Option.some.inj hf
    subst hf
    exact GG.iret C E dX0_says_33
  · have hf := if_f hf c3
    refine GG.aload_n C dX0_says_11 1 rfl ?_
    refine GG.iload_n C dX0_says_12 0 rfl ?_
    obtain ⟨c9, hf⟩ := gd_some hf
    obtain ⟨p10, hp10, hf⟩ := obd_some hf
    refine GG.c_X0_124 C rfl (gX0_none hp10) c9 ⟨Nat.le_of_ble_eq_true rfl, Nat.le_of_ble_eq_true rfl⟩ ⟨Nat.le_of_ble_eq_true rfl, Nat.le_of_ble_eq_true rfl⟩ (Nat.le_of_ble_eq_true rfl) dX0_says_13 ?_
    refine GG.goto C (tgt := 33) dX0_says_16 (by decide) ?_
    have hf := Option.some.inj hf
    subst hf
    exact GG.iret C E dX0_says_33
theorem gX0_key {K : gK} {S : Option MS}  {M : XS} {a0 : Nat} {a1 : Int32} {a2 : Int32} {o : (Int32 × XS)} (hf : fX0_key M a0 a1 a2 = some o) : gMet K yX0_key cX0_key 4 (some Jvm.ClassFile.FieldType.int) rX0_key [(.ref a0), (.int a1), (.int a2)] M S (some (.int o.1)) o.2 S := by
  refine gMet.of pn_X0 (Nat.le_of_ble_eq_true rfl) fun X C E => ?_
  unfold fX0_key at hf
  show GG K X 4 0 0 M S 0 [(0, .ref a0), (1, .int a1), (2, .int a2)] []
  refine GG.aload_n C dX0_key_0 0 rfl ?_
  refine GG.iload_n C dX0_key_1 1 rfl ?_
  refine GG.iload_n C dX0_key_2 2 rfl ?_
  obtain ⟨c1, hf⟩ := gd_some hf
  obtain ⟨p2, hp2, hf⟩ := obd_some hf
  refine GG.c_X0_279 C rfl (gX0_wrongThing hp2) c1 ⟨Nat.le_of_ble_eq_true rfl, Nat.le_of_ble_eq_true rfl⟩ ⟨Nat.le_of_ble_eq_true rfl, Nat.le_of_ble_eq_true rfl⟩ (Nat.le_of_ble_eq_true rfl) dX0_key_3 ?_
  refine GG.istore_n C (lv' := [(3, .int p2.1), (0, .ref a0), (1, .int a1), (2, .int a2)]) dX0_key_6 (by decide) rfl ?_
  refine GG.iload_n C dX0_key_7 0 rfl ?_
  refine GG.if_le C (tgt := 19) dX0_key_8 (by decide) (fun c3 => ?_) (fun c3 => ?_)
  · have hf := if_t hf c3
    refine GG.aload_n C dX0_key_19 1 rfl ?_
    refine GG.aload_n C dX0_key_20 1 rfl ?_
    obtain ⟨c4, hf⟩ := gd_some hf
    obtain ⟨r5, hr5, hf⟩ := obd_some hf
    refine GG.gx_X0_37 C rfl c4 hr5 dX0_key_21 ?_
    refine GG.iload_n C dX0_key_24 2 rfl ?_
    refine GG.iload_n C dX0_key_25 3 rfl ?_
    refine GG.iconst C dX0_key_26 ic_3 ?_
    obtain ⟨c6, hf⟩ := gd_some hf
    obtain ⟨v7, hv7, hf⟩ := obd_some hf
    refine GG.c_X0_267 C rfl (gX4_tells hv7) c6 ⟨Nat.le_of_ble_eq_true rfl, Nat.le_of_ble_eq_true rfl⟩ ⟨Nat.le_of_ble_eq_true rfl, Nat.le_of_ble_eq_true rfl⟩ (Nat.le_of_ble_eq_true rfl) dX0_key_27 ?_
    obtain ⟨p8, hp8, hf⟩ := obd_some hf
    refine GG.c_X0_197 C rfl (gX0_gives hp8) c4 ⟨Nat.le_of_ble_eq_true rfl, Nat.le_of_ble_eq_true rfl⟩ ⟨Nat.le_of_ble_eq_true rfl, Nat.le_of_ble_eq_true rfl⟩ (Nat.le_of_ble_eq_true rfl) dX0_key_30 ?_
    have hf := Option.some.inj hf
    subst hf
    exact GG.iret C E dX0_key_33
  · have hf := if_f hf c3
    refine GG.aload_n C dX0_key_11 1 rfl ?_
    refine GG.iload_n C dX0_key_12 0 rfl ?_
    obtain ⟨c9, hf⟩ := gd_some hf
    obtain ⟨p10, hp10, hf⟩ := obd_some hf
    refine GG.c_X0_124 C rfl (gX0_none hp10) c9 ⟨Nat.le_of_ble_eq_true rfl, Nat.le_of_ble_eq_true rfl⟩ ⟨Nat.le_of_ble_eq_true rfl, Nat.le_of_ble_eq_true rfl⟩ (Nat.le_of_ble_eq_true rfl) dX0_key_13 ?_
    refine GG.goto C (tgt := 33) dX0_key_16 (by decide) ?_
    have hf := Option.some.inj hf
    subst hf
    exact GG.iret C E dX0_key_33
theorem gX0_place {K : gK} {S : Option MS}  {M : XS} {a0 : Nat} {a1 : Int32} {a2 : Int32} {o : (Int32 × XS)} (hf : fX0_place M a0 a1 a2 = some o) : gMet K yX0_place cX0_place 4 (some Jvm.ClassFile.FieldType.int) rX0_place [(.ref a0), (.int a1), (.int a2)] M S (some (.int o.1)) o.2 S := by
  refine gMet.of pn_X0 (Nat.le_of_ble_eq_true rfl) fun X C E => ?_
  unfold fX0_place at hf
  show GG K X 4 0 0 M S 0 [(0, .ref a0), (1, .int a1), (2, .int a2)] []
  refine GG.aload_n C dX0_place_0 0 rfl ?_
  refine GG.iload_n C dX0_place_1 1 rfl ?_
  refine GG.iload_n C dX0_place_2 2 rfl ?_
  obtain ⟨c1, hf⟩ := gd_some hf
  obtain ⟨p2, hp2, hf⟩ := obd_some hf
  refine GG.c_X0_279 C rfl (gX0_wrongThing hp2) c1 ⟨Nat.le_of_ble_eq_true rfl, Nat.le_of_ble_eq_true rfl⟩ ⟨Nat.le_of_ble_eq_true rfl, Nat.le_of_ble_eq_true rfl⟩ (Nat.le_of_ble_eq_true rfl) dX0_place_3 ?_
  refine GG.istore_n C (lv' := [(3, .int p2.1), (0, .ref a0), (1, .int a1), (2, .int a2)]) dX0_place_6 (by decide) rfl ?_
  refine GG.iload_n C dX0_place_7 0 rfl ?_
  refine GG.if_le C (tgt := 19) dX0_place_8 (by decide) (fun c3 => ?_) (fun c3 => ?_)
  · have hf := if_t hf c3
    refine GG.aload_n C dX0_place_19 1 rfl ?_
    refine GG.aload_n C dX0_place_20 1 rfl ?_
    refine GG.iload_n C dX0_place_21 3 rfl ?_
    obtain ⟨c4, hf⟩ := gd_some hf
    obtain ⟨v5, hv5, hf⟩ := obd_some hf
    refine GG.c_X0_276 C rfl (gX0_placeOf hv5) c4 ⟨Nat.le_of_ble_eq_true rfl, Nat.le_of_ble_eq_true rfl⟩ ⟨Nat.le_of_ble_eq_true rfl, Nat.le_of_ble_eq_true rfl⟩ (Nat.le_of_ble_eq_true rfl) dX0_place_22 ?_
    obtain ⟨p6, hp6, hf⟩ := obd_some hf
    refine GG.c_X0_197 C rfl (gX0_gives hp6) c4 ⟨Nat.le_of_ble_eq_true rfl, Nat.le_of_ble_eq_true rfl⟩ ⟨Nat.le_of_ble_eq_true rfl, Nat.le_of_ble_eq_true rfl⟩ (Nat.le_of_ble_eq_true rfl) dX0_place_25 ?_
    have hf := Option.some.inj hf
    subst hf
    exact GG.iret C E dX0_place_28
  · have hf := if_f hf c3
    refine GG.aload_n C dX0_place_11 1 rfl ?_
    refine GG.iload_n C dX0_place_12 0 rfl ?_
    obtain ⟨c7, hf⟩ := gd_some hf
    obtain ⟨p8, hp8, hf⟩ := obd_some hf
    refine GG.c_X0_124 C rfl (gX0_none hp8) c7 ⟨Nat.le_of_ble_eq_true rfl, Nat.le_of_ble_eq_true rfl⟩ ⟨Nat.le_of_ble_eq_true rfl, Nat.le_of_ble_eq_true rfl⟩ (Nat.le_of_ble_eq_true rfl) dX0_place_13 ?_
    refine GG.goto C (tgt := 28) dX0_place_16 (by decide) ?_
    have hf := Option.some.inj hf
    subst hf
    exact GG.iret C E dX0_place_28
theorem gX0_wrongSets {K : gK} {S : Option MS}  {M : XS} {a0 : Nat} {a1 : Int32} {a2 : Int32} {o : Int32} (hf : fX0_wrongSets M a0 a1 a2 = some o) : gMet K yX0_wrongSets cX0_wrongSets 3 (some Jvm.ClassFile.FieldType.int) rX0_wrongSets [(.ref a0), (.int a1), (.int a2)] M S (some (.int o)) M S := by
  refine gMet.of pn_X0 (Nat.le_of_ble_eq_true rfl) fun X C E => ?_
  unfold fX0_wrongSets at hf
  show GG K X 3 0 0 M S 0 [(0, .ref a0), (1, .int a1), (2, .int a2)] []
  refine GG.aload_n C dX0_wrongSets_0 0 rfl ?_
  refine GG.iload_n C dX0_wrongSets_1 1 rfl ?_
  obtain ⟨c1, hf⟩ := gd_some hf
  obtain ⟨v2, hv2, hf⟩ := obd_some hf
  refine GG.c_X0_251 C rfl (gX0_isSet hv2) c1 ⟨Nat.le_of_ble_eq_true rfl, Nat.le_of_ble_eq_true rfl⟩ ⟨Nat.le_of_ble_eq_true rfl, Nat.le_of_ble_eq_true rfl⟩ (Nat.le_of_ble_eq_true rfl) dX0_wrongSets_2 ?_
  refine GG.if_eq C (tgt := 16) dX0_wrongSets_5 (by decide) (fun c3 => ?_) (fun c3 => ?_)
  · have hf := if_t hf c3
    refine GG.iconst C dX0_wrongSets_16 ic_2 ?_
    refine GG.goto C (tgt := 48) dX0_wrongSets_17 (by decide) ?_
    have hf := Option.some.inj hf
    subst hf
    exact GG.iret C E dX0_wrongSets_48
  · have hf := if_f hf c3
    refine GG.aload_n C dX0_wrongSets_8 0 rfl ?_
    refine GG.iload_n C dX0_wrongSets_9 2 rfl ?_
    obtain ⟨v4, hv4, hf⟩ := obd_some hf
    refine GG.c_X0_251 C rfl (gX0_isSet hv4) c1 ⟨Nat.le_of_ble_eq_true rfl, Nat.le_of_ble_eq_true rfl⟩ ⟨Nat.le_of_ble_eq_true rfl, Nat.le_of_ble_eq_true rfl⟩ (Nat.le_of_ble_eq_true rfl) dX0_wrongSets_10 ?_
    refine GG.if_ne C (tgt := 20) dX0_wrongSets_13 (by decide) (fun c5 => ?_) (fun c5 => ?_)
    · have hf := if_f hf c5
      refine GG.aload_n C dX0_wrongSets_20 0 rfl ?_
      obtain ⟨r6, hr6, hf⟩ := obd_some hf
      refine GG.gx_X0_37 C rfl c1 hr6 dX0_wrongSets_21 ?_
      refine GG.iload_n C dX0_wrongSets_24 1 rfl ?_
      obtain ⟨c7, hf⟩ := gd_some hf
      obtain ⟨v8, hv8, hf⟩ := obd_some hf
      refine GG.c_X0_254 C rfl (gX4_holds hv8) c7 ⟨Nat.le_of_ble_eq_true rfl, Nat.le_of_ble_eq_true rfl⟩ ⟨Nat.le_of_ble_eq_true rfl, Nat.le_of_ble_eq_true rfl⟩ (Nat.le_of_ble_eq_true rfl) dX0_wrongSets_25 ?_
      refine GG.if_eq C (tgt := 46) dX0_wrongSets_28 (by decide) (fun c9 => ?_) (fun c9 => ?_)
      · have hf := if_t hf c9
        refine GG.bipush C dX0_wrongSets_46 bp_9 ?_
        have hf := Option.some.inj hf
        subst hf
        exact GG.iret C E dX0_wrongSets_48
      · have hf := if_f hf c9
        refine GG.aload_n C dX0_wrongSets_31 0 rfl ?_
        obtain ⟨r10, hr10, hf⟩ := obd_some hf
        refine GG.gx_X0_37 C rfl c1 hr10 dX0_wrongSets_32 ?_
        refine GG.iload_n C dX0_wrongSets_35 2 rfl ?_
        obtain ⟨c11, hf⟩ := gd_some hf
        obtain ⟨v12, hv12, hf⟩ := obd_some hf
        refine GG.c_X0_254 C rfl (gX4_holds hv12) c11 ⟨Nat.le_of_ble_eq_true rfl, Nat.le_of_ble_eq_true rfl⟩ ⟨Nat.le_of_ble_eq_true rfl, Nat.le_of_ble_eq_true rfl⟩ (Nat.le_of_ble_eq_true rfl) dX0_wrongSets_36 ?_
        refine GG.if_eq C (tgt := 46) dX0_wrongSets_39 (by decide) (fun c13 => ?_) (fun c13 => ?_)
        · have hf := if_t hf c13
          refine GG.bipush C dX0_wrongSets_46 bp_9 ?_
          have hf := Option.some.inj hf
          subst hf
          exact GG.iret C E dX0_wrongSets_48
        · have hf := if_f hf c13
          refine GG.iconst C dX0_wrongSets_42 ic_0 ?_
          refine GG.goto C (tgt := 48) dX0_wrongSets_43 (by decide) ?_
          have hf := Option.some.inj hf
          subst hf
          exact GG.iret C E dX0_wrongSets_48
    · have hf := if_t hf c5
      refine GG.iconst C dX0_wrongSets_16 ic_2 ?_
      refine GG.goto C (tgt := 48) dX0_wrongSets_17 (by decide) ?_
      have hf := Option.some.inj hf
      subst hf
      exact GG.iret C E dX0_wrongSets_48
theorem gX0_differs_34 {K : gK} {X : gX} {S : Option MS} (C : gC K X cX0_differs 7 yX0_differs (some Jvm.ClassFile.FieldType.int) rX0_differs)  {o : (Int32 × XS)} (E : gE K X (some (.int o.1)) o.2 S rX0_differs.cells rX0_differs.slots)   :
    ∀ (n : Nat) (M : XS) (a0 : Nat) (a1 : Int32) (a2 : Int32) (a3 : Int32) (a4 : Int32) (a5 : Int32), fX0_differs_34  n M a0 a1 a2 a3 a4 a5 = some o → GG K X 7 0 0 M S 34 [(0, .ref a0), (1, .int a1), (2, .int a2), (3, .int a3), (4, .int a4), (5, .int a5)] [] := by
  intro n
  induction n with
  | zero => intro M a0 a1 a2 a3 a4 a5 hf; cases hf
  | succ n ih =>
    intro M a0 a1 a2 a3 a4 a5 hf
    rw [fX0_differs_34] at hf
    refine GG.iload C dX0_differs_34 5 rfl ?_
    refine GG.iload C dX0_differs_36 4 rfl ?_
    refine GG.aload_n C dX0_differs_38 0 rfl ?_
    obtain ⟨c10, hf⟩ := gd_some hf
    refine GG.gx_X0_261 C rfl c10 dX0_differs_39 ?_
    refine GG.mmax C q1239 (Nat.le_of_ble_eq_true rfl) (Nat.le_of_ble_eq_true rfl) (Nat.le_of_ble_eq_true rfl) (Nat.le_of_ble_eq_true rfl) dX0_differs_42 ?_
    refine GG.icmp_ge C (tgt := 159) dX0_differs_45 (by decide) (fun c11 => ?_) (fun c11 => ?_)
    · have hf := if_t hf c11
      refine GG.iconst C dX0_differs_159 ic_m1 ?_
      have hf := Option.some.inj hf
      subst hf
      exact GG.iret C E dX0_differs_160
    · have hf := if_f hf c11
      refine GG.iload C dX0_differs_48 5 rfl ?_
      refine GG.iload C dX0_differs_50 4 rfl ?_
      refine GG.icmp_ge C (tgt := 81) dX0_differs_52 (by decide) (fun c12 => ?_) (fun c12 => ?_)
      · have hf := if_t hf c12
        refine GG.iload C dX0_differs_81 5 rfl ?_
        have hf := Option.some.inj hf
        subst hf
        exact GG.iret C E dX0_differs_83
      · have hf := if_f hf c12
        refine GG.iload C dX0_differs_55 5 rfl ?_
        refine GG.aload_n C dX0_differs_57 0 rfl ?_
        refine GG.gx_X0_261 C rfl c10 dX0_differs_58 ?_
        refine GG.icmp_ge C (tgt := 81) dX0_differs_61 (by decide) (fun c13 => ?_) (fun c13 => ?_)
        · have hf := if_t hf c13
          refine GG.iload C dX0_differs_81 5 rfl ?_
          have hf := Option.some.inj hf
          subst hf
          exact GG.iret C E dX0_differs_83
        · have hf := if_f hf c13
          refine GG.aload_n C dX0_differs_64 0 rfl ?_
          obtain ⟨r14, hr14, hf⟩ := obd_some hf
          refine GG.gx_X0_58 C rfl c10 hr14 dX0_differs_65 ?_
          refine GG.iload C dX0_differs_68 5 rfl ?_
          obtain ⟨v15, hv15, hf⟩ := obd_some hf
          refine GG.iald C hv15 dX0_differs_70 ?_
          refine GG.aload_n C dX0_differs_71 0 rfl ?_
          obtain ⟨r16, hr16, hf⟩ := obd_some hf
          refine GG.gx_X0_52 C rfl c10 hr16 dX0_differs_72 ?_
          refine GG.iload C dX0_differs_75 5 rfl ?_
          obtain ⟨v17, hv17, hf⟩ := obd_some hf
          refine GG.iald C hv17 dX0_differs_77 ?_
          refine GG.icmp_eq C (tgt := 84) dX0_differs_78 (by decide) (fun c18 => ?_) (fun c18 => ?_)
          · have hf := if_t hf c18
            refine GG.aload_n C dX0_differs_84 0 rfl ?_
            obtain ⟨r19, hr19, hf⟩ := obd_some hf
            refine GG.gx_X0_52 C rfl c10 hr19 dX0_differs_85 ?_
            refine GG.iload C dX0_differs_88 5 rfl ?_
            obtain ⟨v20, hv20, hf⟩ := obd_some hf
            refine GG.iald C hv20 dX0_differs_90 ?_
            refine GG.istore C (lv' := [(6, .int v20), (0, .ref a0), (1, .int a1), (2, .int a2), (3, .int a3), (4, .int a4), (5, .int a5)]) dX0_differs_91 (by decide) rfl ?_
            refine GG.aload_n C dX0_differs_93 1 rfl ?_
            obtain ⟨r21, hr21, hf⟩ := obd_some hf
            refine GG.gx_X0_37 C rfl c10 hr21 dX0_differs_94 ?_
            refine GG.iload_n C dX0_differs_97 2 rfl ?_
            refine GG.iload C dX0_differs_98 0 rfl ?_
            refine GG.iconst C dX0_differs_100 ic_2 ?_
            obtain ⟨c22, hf⟩ := gd_some hf
            obtain ⟨v23, hv23, hf⟩ := obd_some hf
            refine GG.c_X0_267 C rfl (gX4_tells hv23) c22 ⟨Nat.le_of_ble_eq_true rfl, Nat.le_of_ble_eq_true rfl⟩ ⟨Nat.le_of_ble_eq_true rfl, Nat.le_of_ble_eq_true rfl⟩ (Nat.le_of_ble_eq_true rfl) dX0_differs_101 ?_
            refine GG.aload_n C dX0_differs_104 1 rfl ?_
            obtain ⟨r24, hr24, hf⟩ := obd_some hf
            refine GG.gx_X0_37 C rfl c10 hr24 dX0_differs_105 ?_
            refine GG.iload_n C dX0_differs_108 3 rfl ?_
            refine GG.iload C dX0_differs_109 0 rfl ?_
            refine GG.iconst C dX0_differs_111 ic_2 ?_
            obtain ⟨c25, hf⟩ := gd_some hf
            obtain ⟨v26, hv26, hf⟩ := obd_some hf
            refine GG.c_X0_267 C rfl (gX4_tells hv26) c25 ⟨Nat.le_of_ble_eq_true rfl, Nat.le_of_ble_eq_true rfl⟩ ⟨Nat.le_of_ble_eq_true rfl, Nat.le_of_ble_eq_true rfl⟩ (Nat.le_of_ble_eq_true rfl) dX0_differs_112 ?_
            refine GG.icmp_eq C (tgt := 121) dX0_differs_115 (by decide) (fun c27 => ?_) (fun c27 => ?_)
            · have hf := if_t hf c27
              refine GG.iload_n C dX0_differs_121 4 rfl ?_
              refine GG.if_eq C (tgt := 153) dX0_differs_122 (by decide) (fun c28 => ?_) (fun c28 => ?_)
              · have hf := if_t hf c28
                refine GG.iinc C (v := (a5 + (nI 1))) (lv' := [(5, .int (a5 + (nI 1))), (6, .int v20), (0, .ref a0), (1, .int a1), (2, .int a2), (3, .int a3), (4, .int a4)]) dX0_differs_153 6 rfl (congrArg (a5 + ·) ic_1) (by decide) rfl ?_
                refine GG.goto C (tgt := 34) dX0_differs_156 (by decide) ?_
                refine GG.sub [2, 3, 4, 5, 6, 0] rfl ?_
                exact ih _ _ _ _ _ _ _ hf
              · have hf := if_f hf c28
                refine GG.aload_n C dX0_differs_125 1 rfl ?_
                obtain ⟨r29, hr29, hf⟩ := obd_some hf
                refine GG.gx_X0_37 C rfl c10 hr29 dX0_differs_126 ?_
                refine GG.iload_n C dX0_differs_129 2 rfl ?_
                refine GG.iload C dX0_differs_130 0 rfl ?_
                refine GG.iconst C dX0_differs_132 ic_3 ?_
                obtain ⟨c30, hf⟩ := gd_some hf
                obtain ⟨v31, hv31, hf⟩ := obd_some hf
                refine GG.c_X0_267 C rfl (gX4_tells hv31) c30 ⟨Nat.le_of_ble_eq_true rfl, Nat.le_of_ble_eq_true rfl⟩ ⟨Nat.le_of_ble_eq_true rfl, Nat.le_of_ble_eq_true rfl⟩ (Nat.le_of_ble_eq_true rfl) dX0_differs_133 ?_
                refine GG.aload_n C dX0_differs_136 1 rfl ?_
                obtain ⟨r32, hr32, hf⟩ := obd_some hf
                refine GG.gx_X0_37 C rfl c10 hr32 dX0_differs_137 ?_
                refine GG.iload_n C dX0_differs_140 3 rfl ?_
                refine GG.iload C dX0_differs_141 0 rfl ?_
                refine GG.iconst C dX0_differs_143 ic_3 ?_
                obtain ⟨c33, hf⟩ := gd_some hf
                obtain ⟨v34, hv34, hf⟩ := obd_some hf
                refine GG.c_X0_267 C rfl (gX4_tells hv34) c33 ⟨Nat.le_of_ble_eq_true rfl, Nat.le_of_ble_eq_true rfl⟩ ⟨Nat.le_of_ble_eq_true rfl, Nat.le_of_ble_eq_true rfl⟩ (Nat.le_of_ble_eq_true rfl) dX0_differs_144 ?_
                refine GG.icmp_eq C (tgt := 153) dX0_differs_147 (by decide) (fun c35 => ?_) (fun c35 => ?_)
                · have hf := if_t hf c35
                  refine GG.iinc C (v := (a5 + (nI 1))) (lv' := [(5, .int (a5 + (nI 1))), (6, .int v20), (0, .ref a0), (1, .int a1), (2, .int a2), (3, .int a3), (4, .int a4)]) dX0_differs_153 6 rfl (congrArg (a5 + ·) ic_1) (by decide) rfl ?_
                  refine GG.goto C (tgt := 34) dX0_differs_156 (by decide) ?_
                  refine GG.sub [2, 3, 4, 5, 6, 0] rfl ?_
                  exact ih _ _ _ _ _ _ _ hf
                · have hf := if_f hf c35
                  refine GG.iload C dX0_differs_150 6 rfl ?_
                  have hf := Option.some.inj hf
                  subst hf
                  exact GG.iret C E dX0_differs_152
            · have hf := if_f hf c27
              refine GG.iload C dX0_differs_118 6 rfl ?_
              have hf := Option.some.inj hf
              subst hf
              exact GG.iret C E dX0_differs_120
          · have hf := if_f hf c18
            refine GG.iload C dX0_differs_81 5 rfl ?_
            have hf := Option.some.inj hf
            subst hf
            exact GG.iret C E dX0_differs_83
theorem gX0_differs {K : gK} {S : Option MS}  {M : XS} {a0 : Nat} {a1 : Int32} {a2 : Int32} {a3 : Int32} {o : (Int32 × XS)} (hf : fX0_differs M a0 a1 a2 a3 = some o) : gMet K yX0_differs cX0_differs 7 (some Jvm.ClassFile.FieldType.int) rX0_differs [(.ref a0), (.int a1), (.int a2), (.int a3)] M S (some (.int o.1)) o.2 S := by
  refine gMet.of pn_X0 (Nat.le_of_ble_eq_true rfl) fun X C E => ?_
  unfold fX0_differs at hf
  show GG K X 7 0 0 M S 0 [(0, .ref a0), (1, .int a1), (2, .int a2), (3, .int a3)] []
  refine GG.aload_n C dX0_differs_0 0 rfl ?_
  refine GG.iload_n C dX0_differs_1 1 rfl ?_
  obtain ⟨c1, hf⟩ := gd_some hf
  obtain ⟨p2, hp2, hf⟩ := obd_some hf
  refine GG.c_X0_273 C rfl (gX0_lists hp2) c1 ⟨Nat.le_of_ble_eq_true rfl, Nat.le_of_ble_eq_true rfl⟩ ⟨Nat.le_of_ble_eq_true rfl, Nat.le_of_ble_eq_true rfl⟩ (Nat.le_of_ble_eq_true rfl) dX0_differs_2 ?_
  refine GG.aload_n C dX0_differs_5 0 rfl ?_
  obtain ⟨c3, hf⟩ := gd_some hf
  refine GG.gx_X0_261 C rfl c3 dX0_differs_6 ?_
  refine GG.topi fun x4 hx4 => ?_
  have hf := ltb_s hx4 hf
  refine GG.istore C (lv' := [(4, .int x4), (0, .ref a0), (1, .int a1), (2, .int a2), (3, .int a3)]) dX0_differs_9 (by decide) rfl ?_
  refine GG.aload_n C dX0_differs_11 1 rfl ?_
  obtain ⟨r5, hr5, hf⟩ := obd_some hf
  refine GG.gx_X0_52 C rfl c3 hr5 dX0_differs_12 ?_
  refine GG.iconst C dX0_differs_15 ic_0 ?_
  refine GG.aload_n C dX0_differs_16 1 rfl ?_
  obtain ⟨r6, hr6, hf⟩ := obd_some hf
  refine GG.gx_X0_58 C rfl c3 hr6 dX0_differs_17 ?_
  refine GG.iconst C dX0_differs_20 ic_0 ?_
  refine GG.iload C dX0_differs_21 0 rfl ?_
  obtain ⟨M7, hM7, hf⟩ := obd_some hf
  refine GG.acopy C hM7 q626 (Nat.le_of_ble_eq_true rfl) (Nat.le_of_ble_eq_true rfl) dX0_differs_23 ?_
  refine GG.aload_n C dX0_differs_26 1 rfl ?_
  refine GG.iload_n C dX0_differs_27 3 rfl ?_
  obtain ⟨c8, hf⟩ := gd_some hf
  obtain ⟨p9, hp9, hf⟩ := obd_some hf
  refine GG.c_X0_273 C rfl (gX0_lists hp9) c8 ⟨Nat.le_of_ble_eq_true rfl, Nat.le_of_ble_eq_true rfl⟩ ⟨Nat.le_of_ble_eq_true rfl, Nat.le_of_ble_eq_true rfl⟩ (Nat.le_of_ble_eq_true rfl) dX0_differs_28 ?_
  refine GG.iconst C dX0_differs_31 ic_0 ?_
  refine GG.istore C (lv' := [(5, .int (nI 0)), (4, .int x4), (0, .ref a0), (1, .int a1), (2, .int a2), (3, .int a3)]) dX0_differs_32 (by decide) rfl ?_
  refine GG.sub [2, 3, 4, 5, 1, 0] rfl ?_
  exact gX0_differs_34 C E  FU _ _ _ _ _ _ _ hf
theorem gX0_inSet {K : gK} {S : Option MS}  {M : XS} {a0 : Nat} {a1 : Int32} {a2 : Int32} {o : Int32} (hf : fX0_inSet M a0 a1 a2 = some o) : gMet K yX0_inSet cX0_inSet 3 (some Jvm.ClassFile.FieldType.int) rX0_inSet [(.ref a0), (.int a1), (.int a2)] M S (some (.int o)) M S := by
  refine gMet.of pn_X0 (Nat.le_of_ble_eq_true rfl) fun X C E => ?_
  unfold fX0_inSet at hf
  show GG K X 3 0 0 M S 0 [(0, .ref a0), (1, .int a1), (2, .int a2)] []
  refine GG.iload_n C dX0_inSet_0 1 rfl ?_
  refine GG.iload_n C dX0_inSet_1 2 rfl ?_
  refine GG.ishr C dX0_inSet_2 ?_
  refine GG.iconst C dX0_inSet_3 ic_1 ?_
  refine GG.iand C dX0_inSet_4 ?_
  refine GG.iconst C dX0_inSet_5 ic_1 ?_
  refine GG.icmp_ne C (tgt := 21) dX0_inSet_6 (by decide) (fun c1 => ?_) (fun c1 => ?_)
  · have hf := if_f hf c1
    refine GG.iconst C dX0_inSet_21 ic_0 ?_
    have hf := Option.some.inj hf
    subst hf
    exact GG.iret C E dX0_inSet_22
  · have hf := if_t hf c1
    refine GG.aload_n C dX0_inSet_9 0 rfl ?_
    obtain ⟨c2, hf⟩ := gd_some hf
    obtain ⟨r3, hr3, hf⟩ := obd_some hf
    refine GG.gx_X0_37 C rfl c2 hr3 dX0_inSet_10 ?_
    refine GG.iload_n C dX0_inSet_13 1 rfl ?_
    refine GG.iload_n C dX0_inSet_14 2 rfl ?_
    obtain ⟨c4, hf⟩ := gd_some hf
    obtain ⟨v5, hv5, hf⟩ := obd_some hf
    refine GG.c_X0_297 C rfl (gX4_quarrels hv5) c4 ⟨Nat.le_of_ble_eq_true rfl, Nat.le_of_ble_eq_true rfl⟩ ⟨Nat.le_of_ble_eq_true rfl, Nat.le_of_ble_eq_true rfl⟩ (Nat.le_of_ble_eq_true rfl) dX0_inSet_15 ?_
    refine GG.goto C (tgt := 22) dX0_inSet_18 (by decide) ?_
    have hf := Option.some.inj hf
    subst hf
    exact GG.iret C E dX0_inSet_22
theorem gX0_like_38 {K : gK} {X : gX} {S : Option MS} (C : gC K X cX0_like 6 yX0_like (some Jvm.ClassFile.FieldType.int) rX0_like)  {o : (Int32 × XS)} (E : gE K X (some (.int o.1)) o.2 S rX0_like.cells rX0_like.slots)   :
    ∀ (n : Nat) (M : XS) (a0 : Nat) (a1 : Int32) (a2 : Int32) (a4 : Int32) (a5 : Int32), fX0_like_38  n M a0 a1 a2 a4 a5 = some o → GG K X 6 0 0 M S 38 [(0, .ref a0), (1, .int a1), (2, .int a2), (4, .int a4), (5, .int a5)] [] := by
  intro n
  induction n with
  | zero => intro M a0 a1 a2 a4 a5 hf; cases hf
  | succ n ih =>
    intro M a0 a1 a2 a4 a5 hf
    rw [fX0_like_38] at hf
    refine GG.iload C dX0_like_38 4 rfl ?_
    refine GG.aload_n C dX0_like_40 0 rfl ?_
    obtain ⟨c7, hf⟩ := gd_some hf
    obtain ⟨r8, hr8, hf⟩ := obd_some hf
    refine GG.gx_X0_37 C rfl c7 hr8 dX0_like_41 ?_
    obtain ⟨c9, hf⟩ := gd_some hf
    refine GG.gx_X0_149 C rfl c9 dX0_like_44 ?_
    refine GG.icmp_ge C (tgt := 85) dX0_like_47 (by decide) (fun c10 => ?_) (fun c10 => ?_)
    · have hf := if_t hf c10
      refine GG.aload_n C dX0_like_85 0 rfl ?_
      refine GG.iload C dX0_like_86 3 rfl ?_
      refine GG.if_eq C (tgt := 95) dX0_like_88 (by decide) (fun c11 => ?_) (fun c11 => ?_)
      · have hf := if_t hf c11
        refine GG.iconst C dX0_like_95 ic_0 ?_
        obtain ⟨p12, hp12, hf⟩ := obd_some hf
        refine GG.c_X0_197 C rfl (gX0_gives hp12) c7 ⟨Nat.le_of_ble_eq_true rfl, Nat.le_of_ble_eq_true rfl⟩ ⟨Nat.le_of_ble_eq_true rfl, Nat.le_of_ble_eq_true rfl⟩ (Nat.le_of_ble_eq_true rfl) dX0_like_96 ?_
        have hf := Option.some.inj hf
        subst hf
        exact GG.iret C E dX0_like_99
      · have hf := if_f hf c11
        refine GG.iconst C dX0_like_91 ic_1 ?_
        refine GG.goto C (tgt := 96) dX0_like_92 (by decide) ?_
        obtain ⟨p13, hp13, hf⟩ := obd_some hf
        refine GG.c_X0_197 C rfl (gX0_gives hp13) c7 ⟨Nat.le_of_ble_eq_true rfl, Nat.le_of_ble_eq_true rfl⟩ ⟨Nat.le_of_ble_eq_true rfl, Nat.le_of_ble_eq_true rfl⟩ (Nat.le_of_ble_eq_true rfl) dX0_like_96 ?_
        have hf := Option.some.inj hf
        subst hf
        exact GG.iret C E dX0_like_99
    · have hf := if_f hf c10
      refine GG.iload C dX0_like_50 3 rfl ?_
      refine GG.if_eq C (tgt := 85) dX0_like_52 (by decide) (fun c14 => ?_) (fun c14 => ?_)
      · have hf := if_t hf c14
        refine GG.aload_n C dX0_like_85 0 rfl ?_
        refine GG.iload C dX0_like_86 3 rfl ?_
        refine GG.if_eq C (tgt := 95) dX0_like_88 (by decide) (fun c15 => ?_) (fun c15 => ?_)
        · have hf := if_t hf c15
          refine GG.iconst C dX0_like_95 ic_0 ?_
          obtain ⟨p16, hp16, hf⟩ := obd_some hf
          refine GG.c_X0_197 C rfl (gX0_gives hp16) c7 ⟨Nat.le_of_ble_eq_true rfl, Nat.le_of_ble_eq_true rfl⟩ ⟨Nat.le_of_ble_eq_true rfl, Nat.le_of_ble_eq_true rfl⟩ (Nat.le_of_ble_eq_true rfl) dX0_like_96 ?_
          have hf := Option.some.inj hf
          subst hf
          exact GG.iret C E dX0_like_99
        · have hf := if_f hf c15
          refine GG.iconst C dX0_like_91 ic_1 ?_
          refine GG.goto C (tgt := 96) dX0_like_92 (by decide) ?_
          obtain ⟨p17, hp17, hf⟩ := obd_some hf
          refine GG.c_X0_197 C rfl (gX0_gives hp17) c7 ⟨Nat.le_of_ble_eq_true rfl, Nat.le_of_ble_eq_true rfl⟩ ⟨Nat.le_of_ble_eq_true rfl, Nat.le_of_ble_eq_true rfl⟩ (Nat.le_of_ble_eq_true rfl) dX0_like_96 ?_
          have hf := Option.some.inj hf
          subst hf
          exact GG.iret C E dX0_like_99
      · have hf := if_f hf c14
        refine GG.aload_n C dX0_like_55 0 rfl ?_
        refine GG.iload_n C dX0_like_56 1 rfl ?_
        refine GG.iload C dX0_like_57 4 rfl ?_
        obtain ⟨v18, hv18, hf⟩ := obd_some hf
        refine GG.c_X0_294 C rfl (gX0_inSet hv18) c7 ⟨Nat.le_of_ble_eq_true rfl, Nat.le_of_ble_eq_true rfl⟩ ⟨Nat.le_of_ble_eq_true rfl, Nat.le_of_ble_eq_true rfl⟩ (Nat.le_of_ble_eq_true rfl) dX0_like_59 ?_
        refine GG.aload_n C dX0_like_62 0 rfl ?_
        refine GG.iload_n C dX0_like_63 2 rfl ?_
        refine GG.iload C dX0_like_64 4 rfl ?_
        obtain ⟨v19, hv19, hf⟩ := obd_some hf
        refine GG.c_X0_294 C rfl (gX0_inSet hv19) c7 ⟨Nat.le_of_ble_eq_true rfl, Nat.le_of_ble_eq_true rfl⟩ ⟨Nat.le_of_ble_eq_true rfl, Nat.le_of_ble_eq_true rfl⟩ (Nat.le_of_ble_eq_true rfl) dX0_like_66 ?_
        refine GG.icmp_ne C (tgt := 76) dX0_like_69 (by decide) (fun c20 => ?_) (fun c20 => ?_)
        · have hf := if_f hf c20
          refine GG.iconst C dX0_like_76 ic_0 ?_
          refine GG.istore C (lv' := [(4, .int (nI 0)), (0, .ref a0), (1, .int a1), (2, .int a2), (5, .int a5)]) dX0_like_77 (by decide) rfl ?_
          refine GG.iinc C (v := (a5 + (nI 1))) (lv' := [(5, .int (a5 + (nI 1))), (4, .int (nI 0)), (0, .ref a0), (1, .int a1), (2, .int a2)]) dX0_like_79 4 rfl (congrArg (a5 + ·) ic_1) (by decide) rfl ?_
          refine GG.goto C (tgt := 38) dX0_like_82 (by decide) ?_
          refine GG.sub [2, 3, 4, 1, 0] rfl ?_
          exact ih _ _ _ _ _ _ hf
        · have hf := if_t hf c20
          refine GG.iconst C dX0_like_72 ic_1 ?_
          refine GG.goto C (tgt := 77) dX0_like_73 (by decide) ?_
          refine GG.istore C (lv' := [(4, .int (nI 1)), (0, .ref a0), (1, .int a1), (2, .int a2), (5, .int a5)]) dX0_like_77 (by decide) rfl ?_
          refine GG.iinc C (v := (a5 + (nI 1))) (lv' := [(5, .int (a5 + (nI 1))), (4, .int (nI 1)), (0, .ref a0), (1, .int a1), (2, .int a2)]) dX0_like_79 4 rfl (congrArg (a5 + ·) ic_1) (by decide) rfl ?_
          refine GG.goto C (tgt := 38) dX0_like_82 (by decide) ?_
          refine GG.sub [2, 3, 4, 1, 0] rfl ?_
          exact ih _ _ _ _ _ _ hf
theorem gX0_like {K : gK} {S : Option MS}  {M : XS} {a0 : Nat} {a1 : Int32} {a2 : Int32} {o : (Int32 × XS)} (hf : fX0_like M a0 a1 a2 = some o) : gMet K yX0_like cX0_like 6 (some Jvm.ClassFile.FieldType.int) rX0_like [(.ref a0), (.int a1), (.int a2)] M S (some (.int o.1)) o.2 S := by
  refine gMet.of pn_X0 (Nat.le_of_ble_eq_true rfl) fun X C E => ?_
  unfold fX0_like at hf
  show GG K X 6 0 0 M S 0 [(0, .ref a0), (1, .int a1), (2, .int a2)] []
  refine GG.aload_n C dX0_like_0 0 rfl ?_
  refine GG.iload_n C dX0_like_1 1 rfl ?_
  refine GG.iload_n C dX0_like_2 2 rfl ?_
  obtain ⟨c1, hf⟩ := gd_some hf
  obtain ⟨v2, hv2, hf⟩ := obd_some hf
  refine GG.c_X0_287 C rfl (gX0_wrongSets hv2) c1 ⟨Nat.le_of_ble_eq_true rfl, Nat.le_of_ble_eq_true rfl⟩ ⟨Nat.le_of_ble_eq_true rfl, Nat.le_of_ble_eq_true rfl⟩ (Nat.le_of_ble_eq_true rfl) dX0_like_3 ?_
  refine GG.istore_n C (lv' := [(3, .int v2), (0, .ref a0), (1, .int a1), (2, .int a2)]) dX0_like_6 (by decide) rfl ?_
  refine GG.iload_n C dX0_like_7 0 rfl ?_
  refine GG.if_le C (tgt := 17) dX0_like_8 (by decide) (fun c3 => ?_) (fun c3 => ?_)
  · have hf := if_t hf c3
    refine GG.aload_n C dX0_like_17 1 rfl ?_
    refine GG.iload_n C dX0_like_18 2 rfl ?_
    refine GG.iload_n C dX0_like_19 3 rfl ?_
    refine GG.iconst C dX0_like_20 ic_1 ?_
    obtain ⟨p4, hp4, hf⟩ := obd_some hf
    refine GG.c_X0_290 C rfl (gX0_differs hp4) c1 ⟨Nat.le_of_ble_eq_true rfl, Nat.le_of_ble_eq_true rfl⟩ ⟨Nat.le_of_ble_eq_true rfl, Nat.le_of_ble_eq_true rfl⟩ (Nat.le_of_ble_eq_true rfl) dX0_like_21 ?_
    refine GG.iconst C dX0_like_24 ic_m1 ?_
    refine GG.icmp_ne C (tgt := 32) dX0_like_25 (by decide) (fun c5 => ?_) (fun c5 => ?_)
    · have hf := if_f hf c5
      refine GG.iconst C dX0_like_32 ic_0 ?_
      refine GG.istore C (lv' := [(4, .int (nI 0)), (3, .int v2), (0, .ref a0), (1, .int a1), (2, .int a2)]) dX0_like_33 (by decide) rfl ?_
      refine GG.iconst C dX0_like_35 ic_0 ?_
      refine GG.istore C (lv' := [(5, .int (nI 0)), (4, .int (nI 0)), (3, .int v2), (0, .ref a0), (1, .int a1), (2, .int a2)]) dX0_like_36 (by decide) rfl ?_
      refine GG.sub [3, 4, 5, 1, 0] rfl ?_
      exact gX0_like_38 C E  FU _ _ _ _ _ _ hf
    · have hf := if_t hf c5
      refine GG.iconst C dX0_like_28 ic_1 ?_
      refine GG.goto C (tgt := 33) dX0_like_29 (by decide) ?_
      refine GG.istore C (lv' := [(4, .int (nI 1)), (3, .int v2), (0, .ref a0), (1, .int a1), (2, .int a2)]) dX0_like_33 (by decide) rfl ?_
      refine GG.iconst C dX0_like_35 ic_0 ?_
      refine GG.istore C (lv' := [(5, .int (nI 0)), (4, .int (nI 1)), (3, .int v2), (0, .ref a0), (1, .int a1), (2, .int a2)]) dX0_like_36 (by decide) rfl ?_
      refine GG.sub [3, 4, 5, 1, 0] rfl ?_
      exact gX0_like_38 C E  FU _ _ _ _ _ _ hf
  · have hf := if_f hf c3
    refine GG.aload_n C dX0_like_11 1 rfl ?_
    refine GG.iload_n C dX0_like_12 0 rfl ?_
    obtain ⟨p6, hp6, hf⟩ := obd_some hf
    refine GG.c_X0_124 C rfl (gX0_none hp6) c1 ⟨Nat.le_of_ble_eq_true rfl, Nat.le_of_ble_eq_true rfl⟩ ⟨Nat.le_of_ble_eq_true rfl, Nat.le_of_ble_eq_true rfl⟩ (Nat.le_of_ble_eq_true rfl) dX0_like_13 ?_
    have hf := Option.some.inj hf
    subst hf
    exact GG.iret C E dX0_like_16
theorem gX0_apart {K : gK} {S : Option MS}  {M : XS} {a0 : Nat} {a1 : Int32} {a2 : Int32} {o : (Int32 × XS)} (hf : fX0_apart M a0 a1 a2 = some o) : gMet K yX0_apart cX0_apart 5 (some Jvm.ClassFile.FieldType.int) rX0_apart [(.ref a0), (.int a1), (.int a2)] M S (some (.int o.1)) o.2 S := by
  refine gMet.of pn_X0 (Nat.le_of_ble_eq_true rfl) fun X C E => ?_
  unfold fX0_apart at hf
  show GG K X 5 0 0 M S 0 [(0, .ref a0), (1, .int a1), (2, .int a2)] []
  refine GG.aload_n C dX0_apart_0 0 rfl ?_
  refine GG.iload_n C dX0_apart_1 1 rfl ?_
  refine GG.iload_n C dX0_apart_2 2 rfl ?_
  obtain ⟨c1, hf⟩ := gd_some hf
  obtain ⟨v2, hv2, hf⟩ := obd_some hf
  refine GG.c_X0_287 C rfl (gX0_wrongSets hv2) c1 ⟨Nat.le_of_ble_eq_true rfl, Nat.le_of_ble_eq_true rfl⟩ ⟨Nat.le_of_ble_eq_true rfl, Nat.le_of_ble_eq_true rfl⟩ (Nat.le_of_ble_eq_true rfl) dX0_apart_3 ?_
  refine GG.istore_n C (lv' := [(3, .int v2), (0, .ref a0), (1, .int a1), (2, .int a2)]) dX0_apart_6 (by decide) rfl ?_
  refine GG.iload_n C dX0_apart_7 0 rfl ?_
  refine GG.if_le C (tgt := 17) dX0_apart_8 (by decide) (fun c3 => ?_) (fun c3 => ?_)
  · have hf := if_t hf c3
    refine GG.aload_n C dX0_apart_17 1 rfl ?_
    refine GG.iload_n C dX0_apart_18 2 rfl ?_
    refine GG.iload_n C dX0_apart_19 3 rfl ?_
    refine GG.iconst C dX0_apart_20 ic_0 ?_
    obtain ⟨p4, hp4, hf⟩ := obd_some hf
    refine GG.c_X0_290 C rfl (gX0_differs hp4) c1 ⟨Nat.le_of_ble_eq_true rfl, Nat.le_of_ble_eq_true rfl⟩ ⟨Nat.le_of_ble_eq_true rfl, Nat.le_of_ble_eq_true rfl⟩ (Nat.le_of_ble_eq_true rfl) dX0_apart_21 ?_
    refine GG.istore C (lv' := [(4, .int p4.1), (3, .int v2), (0, .ref a0), (1, .int a1), (2, .int a2)]) dX0_apart_24 (by decide) rfl ?_
    refine GG.iload C dX0_apart_26 0 rfl ?_
    refine GG.iconst C dX0_apart_28 ic_m1 ?_
    refine GG.icmp_ne C (tgt := 41) dX0_apart_29 (by decide) (fun c5 => ?_) (fun c5 => ?_)
    · have hf := if_f hf c5
      refine GG.aload_n C dX0_apart_41 2 rfl ?_
      refine GG.iload C dX0_apart_42 0 rfl ?_
      obtain ⟨c6, hf⟩ := gd_some hf
      obtain ⟨p7, hp7, hf⟩ := obd_some hf
      refine GG.c_X0_197 C rfl (gX0_gives hp7) c6 ⟨Nat.le_of_ble_eq_true rfl, Nat.le_of_ble_eq_true rfl⟩ ⟨Nat.le_of_ble_eq_true rfl, Nat.le_of_ble_eq_true rfl⟩ (Nat.le_of_ble_eq_true rfl) dX0_apart_44 ?_
      have hf := Option.some.inj hf
      subst hf
      exact GG.iret C E dX0_apart_47
    · have hf := if_t hf c5
      refine GG.aload_n C dX0_apart_32 2 rfl ?_
      refine GG.bipush C dX0_apart_33 bp_8 ?_
      obtain ⟨c8, hf⟩ := gd_some hf
      obtain ⟨p9, hp9, hf⟩ := obd_some hf
      refine GG.c_X0_124 C rfl (gX0_none hp9) c8 ⟨Nat.le_of_ble_eq_true rfl, Nat.le_of_ble_eq_true rfl⟩ ⟨Nat.le_of_ble_eq_true rfl, Nat.le_of_ble_eq_true rfl⟩ (Nat.le_of_ble_eq_true rfl) dX0_apart_35 ?_
      refine GG.goto C (tgt := 47) dX0_apart_38 (by decide) ?_
      have hf := Option.some.inj hf
      subst hf
      exact GG.iret C E dX0_apart_47
  · have hf := if_f hf c3
    refine GG.aload_n C dX0_apart_11 1 rfl ?_
    refine GG.iload_n C dX0_apart_12 0 rfl ?_
    obtain ⟨p10, hp10, hf⟩ := obd_some hf
    refine GG.c_X0_124 C rfl (gX0_none hp10) c1 ⟨Nat.le_of_ble_eq_true rfl, Nat.le_of_ble_eq_true rfl⟩ ⟨Nat.le_of_ble_eq_true rfl, Nat.le_of_ble_eq_true rfl⟩ (Nat.le_of_ble_eq_true rfl) dX0_apart_13 ?_
    have hf := Option.some.inj hf
    subst hf
    exact GG.iret C E dX0_apart_16
theorem gX0_quarrels_18 {K : gK} {X : gX} {S : Option MS} (C : gC K X cX0_quarrels 4 yX0_quarrels (some Jvm.ClassFile.FieldType.int) rX0_quarrels)  {o : (Int32 × XS)} (E : gE K X (some (.int o.1)) o.2 S rX0_quarrels.cells rX0_quarrels.slots)   :
    ∀ (n : Nat) (M : XS) (a0 : Nat) (a1 : Int32) (a2 : Int32) (a3 : Int32), fX0_quarrels_18  n M a0 a1 a2 a3 = some o → GG K X 4 0 0 M S 18 [(0, .ref a0), (1, .int a1), (2, .int a2), (3, .int a3)] [] := by
  intro n
  induction n with
  | zero => intro M a0 a1 a2 a3 hf; cases hf
  | succ n ih =>
    intro M a0 a1 a2 a3 hf
    rw [fX0_quarrels_18] at hf
    refine GG.iload_n C dX0_quarrels_18 3 rfl ?_
    refine GG.aload_n C dX0_quarrels_19 0 rfl ?_
    obtain ⟨c5, hf⟩ := gd_some hf
    obtain ⟨r6, hr6, hf⟩ := obd_some hf
    refine GG.gx_X0_37 C rfl c5 hr6 dX0_quarrels_20 ?_
    obtain ⟨c7, hf⟩ := gd_some hf
    refine GG.gx_X0_149 C rfl c7 dX0_quarrels_23 ?_
    refine GG.icmp_ge C (tgt := 47) dX0_quarrels_26 (by decide) (fun c8 => ?_) (fun c8 => ?_)
    · have hf := if_t hf c8
      refine GG.aload_n C dX0_quarrels_47 0 rfl ?_
      refine GG.iload_n C dX0_quarrels_48 2 rfl ?_
      refine GG.iconst C dX0_quarrels_49 ic_2 ?_
      refine GG.idiv C dX0_quarrels_50 (by decide) ?_
      obtain ⟨p9, hp9, hf⟩ := obd_some hf
      refine GG.c_X0_197 C rfl (gX0_gives hp9) c5 ⟨Nat.le_of_ble_eq_true rfl, Nat.le_of_ble_eq_true rfl⟩ ⟨Nat.le_of_ble_eq_true rfl, Nat.le_of_ble_eq_true rfl⟩ (Nat.le_of_ble_eq_true rfl) dX0_quarrels_51 ?_
      have hf := Option.some.inj hf
      subst hf
      exact GG.iret C E dX0_quarrels_54
    · have hf := if_f hf c8
      refine GG.iload_n C dX0_quarrels_29 2 rfl ?_
      refine GG.aload_n C dX0_quarrels_30 0 rfl ?_
      refine GG.iload_n C dX0_quarrels_31 1 rfl ?_
      refine GG.iload_n C dX0_quarrels_32 3 rfl ?_
      obtain ⟨v10, hv10, hf⟩ := obd_some hf
      refine GG.c_X0_294 C rfl (gX0_inSet hv10) c5 ⟨Nat.le_of_ble_eq_true rfl, Nat.le_of_ble_eq_true rfl⟩ ⟨Nat.le_of_ble_eq_true rfl, Nat.le_of_ble_eq_true rfl⟩ (Nat.le_of_ble_eq_true rfl) dX0_quarrels_33 ?_
      obtain ⟨v11, hv11, hf⟩ := obd_some hf
      refine GG.c_X0_219 C rfl (gJ12_bitCount hv11) ⟨Nat.le_of_ble_eq_true rfl, Nat.le_of_ble_eq_true rfl⟩ ⟨Nat.le_of_ble_eq_true rfl, Nat.le_of_ble_eq_true rfl⟩ (Nat.le_of_ble_eq_true rfl) dX0_quarrels_36 ?_
      refine GG.iadd C dX0_quarrels_39 ?_
      refine GG.topi fun x12 hx12 => ?_
      have hf := ltb_s hx12 hf
      refine GG.istore_n C (lv' := [(2, .int x12), (0, .ref a0), (1, .int a1), (3, .int a3)]) dX0_quarrels_40 (by decide) rfl ?_
      refine GG.iinc C (v := (a3 + (nI 1))) (lv' := [(3, .int (a3 + (nI 1))), (2, .int x12), (0, .ref a0), (1, .int a1)]) dX0_quarrels_41 3 rfl (congrArg (a3 + ·) ic_1) (by decide) rfl ?_
      refine GG.goto C (tgt := 18) dX0_quarrels_44 (by decide) ?_
      refine GG.sub [2, 3, 1, 0] rfl ?_
      exact ih _ _ _ _ _ hf
theorem gX0_quarrels {K : gK} {S : Option MS}  {M : XS} {a0 : Nat} {a1 : Int32} {o : (Int32 × XS)} (hf : fX0_quarrels M a0 a1 = some o) : gMet K yX0_quarrels cX0_quarrels 4 (some Jvm.ClassFile.FieldType.int) rX0_quarrels [(.ref a0), (.int a1)] M S (some (.int o.1)) o.2 S := by
  refine gMet.of pn_X0 (Nat.le_of_ble_eq_true rfl) fun X C E => ?_
  unfold fX0_quarrels at hf
  show GG K X 4 0 0 M S 0 [(0, .ref a0), (1, .int a1)] []
  refine GG.aload_n C dX0_quarrels_0 0 rfl ?_
  refine GG.iload_n C dX0_quarrels_1 1 rfl ?_
  obtain ⟨c1, hf⟩ := gd_some hf
  obtain ⟨v2, hv2, hf⟩ := obd_some hf
  refine GG.c_X0_251 C rfl (gX0_isSet hv2) c1 ⟨Nat.le_of_ble_eq_true rfl, Nat.le_of_ble_eq_true rfl⟩ ⟨Nat.le_of_ble_eq_true rfl, Nat.le_of_ble_eq_true rfl⟩ (Nat.le_of_ble_eq_true rfl) dX0_quarrels_2 ?_
  refine GG.if_ne C (tgt := 14) dX0_quarrels_5 (by decide) (fun c3 => ?_) (fun c3 => ?_)
  · have hf := if_f hf c3
    refine GG.iconst C dX0_quarrels_14 ic_0 ?_
    refine GG.istore_n C (lv' := [(2, .int (nI 0)), (0, .ref a0), (1, .int a1)]) dX0_quarrels_15 (by decide) rfl ?_
    refine GG.iconst C dX0_quarrels_16 ic_0 ?_
    refine GG.istore_n C (lv' := [(3, .int (nI 0)), (2, .int (nI 0)), (0, .ref a0), (1, .int a1)]) dX0_quarrels_17 (by decide) rfl ?_
    refine GG.sub [2, 3, 1, 0] rfl ?_
    exact gX0_quarrels_18 C E  FU _ _ _ _ _ hf
  · have hf := if_t hf c3
    refine GG.aload_n C dX0_quarrels_8 0 rfl ?_
    refine GG.iconst C dX0_quarrels_9 ic_2 ?_
    obtain ⟨p4, hp4, hf⟩ := obd_some hf
    refine GG.c_X0_124 C rfl (gX0_none hp4) c1 ⟨Nat.le_of_ble_eq_true rfl, Nat.le_of_ble_eq_true rfl⟩ ⟨Nat.le_of_ble_eq_true rfl, Nat.le_of_ble_eq_true rfl⟩ (Nat.le_of_ble_eq_true rfl) dX0_quarrels_10 ?_
    have hf := Option.some.inj hf
    subst hf
    exact GG.iret C E dX0_quarrels_13
theorem gX0_with {K : gK} {S : Option MS}  {M : XS} {a0 : Nat} {a1 : Int32} {a2 : Int32} {o : (Int32 × XS)} (hf : fX0_with M a0 a1 a2 = some o) : gMet K yX0_with cX0_with 3 (some Jvm.ClassFile.FieldType.int) rX0_with [(.ref a0), (.int a1), (.int a2)] M S (some (.int o.1)) o.2 S := by
  refine gMet.of pn_X0 (Nat.le_of_ble_eq_true rfl) fun X C E => ?_
  unfold fX0_with at hf
  show GG K X 3 0 0 M S 0 [(0, .ref a0), (1, .int a1), (2, .int a2)] []
  refine GG.aload_n C dX0_with_0 0 rfl ?_
  refine GG.iload_n C dX0_with_1 1 rfl ?_
  obtain ⟨c1, hf⟩ := gd_some hf
  obtain ⟨v2, hv2, hf⟩ := obd_some hf
  refine GG.c_X0_251 C rfl (gX0_isSet hv2) c1 ⟨Nat.le_of_ble_eq_true rfl, Nat.le_of_ble_eq_true rfl⟩ ⟨Nat.le_of_ble_eq_true rfl, Nat.le_of_ble_eq_true rfl⟩ (Nat.le_of_ble_eq_true rfl) dX0_with_2 ?_
  refine GG.if_eq C (tgt := 17) dX0_with_5 (by decide) (fun c3 => ?_) (fun c3 => ?_)
  · have hf := if_t hf c3
    refine GG.aload_n C dX0_with_17 0 rfl ?_
    refine GG.iconst C dX0_with_18 ic_2 ?_
    obtain ⟨p4, hp4, hf⟩ := obd_some hf
    refine GG.c_X0_124 C rfl (gX0_none hp4) c1 ⟨Nat.le_of_ble_eq_true rfl, Nat.le_of_ble_eq_true rfl⟩ ⟨Nat.le_of_ble_eq_true rfl, Nat.le_of_ble_eq_true rfl⟩ (Nat.le_of_ble_eq_true rfl) dX0_with_19 ?_
    have hf := Option.some.inj hf
    subst hf
    exact GG.iret C E dX0_with_22
  · have hf := if_f hf c3
    refine GG.aload_n C dX0_with_8 0 rfl ?_
    refine GG.iload_n C dX0_with_9 2 rfl ?_
    refine GG.i2l C dX0_with_10 ?_
    obtain ⟨v5, hv5, hf⟩ := obd_some hf
    refine GG.c_X0_224 C rfl (gX0_isChange hv5) c1 ⟨Nat.le_of_ble_eq_true rfl, Nat.le_of_ble_eq_true rfl⟩ ⟨Nat.le_of_ble_eq_true rfl, Nat.le_of_ble_eq_true rfl⟩ (Nat.le_of_ble_eq_true rfl) dX0_with_11 ?_
    refine GG.if_ne C (tgt := 23) dX0_with_14 (by decide) (fun c6 => ?_) (fun c6 => ?_)
    · have hf := if_f hf c6
      refine GG.iload_n C dX0_with_23 1 rfl ?_
      refine GG.iload_n C dX0_with_24 2 rfl ?_
      refine GG.ishr C dX0_with_25 ?_
      refine GG.iconst C dX0_with_26 ic_1 ?_
      refine GG.iand C dX0_with_27 ?_
      refine GG.if_ne C (tgt := 40) dX0_with_28 (by decide) (fun c7 => ?_) (fun c7 => ?_)
      · have hf := if_f hf c7
        refine GG.aload_n C dX0_with_40 0 rfl ?_
        refine GG.aload_n C dX0_with_41 0 rfl ?_
        obtain ⟨r8, hr8, hf⟩ := obd_some hf
        refine GG.gx_X0_37 C rfl c1 hr8 dX0_with_42 ?_
        refine GG.iload_n C dX0_with_45 1 rfl ?_
        refine GG.iload_n C dX0_with_46 2 rfl ?_
        obtain ⟨c9, hf⟩ := gd_some hf
        obtain ⟨v10, hv10, hf⟩ := obd_some hf
        refine GG.c_X0_297 C rfl (gX4_quarrels hv10) c9 ⟨Nat.le_of_ble_eq_true rfl, Nat.le_of_ble_eq_true rfl⟩ ⟨Nat.le_of_ble_eq_true rfl, Nat.le_of_ble_eq_true rfl⟩ (Nat.le_of_ble_eq_true rfl) dX0_with_47 ?_
        obtain ⟨p11, hp11, hf⟩ := obd_some hf
        refine GG.c_X0_197 C rfl (gX0_gives hp11) c1 ⟨Nat.le_of_ble_eq_true rfl, Nat.le_of_ble_eq_true rfl⟩ ⟨Nat.le_of_ble_eq_true rfl, Nat.le_of_ble_eq_true rfl⟩ (Nat.le_of_ble_eq_true rfl) dX0_with_50 ?_
        have hf := Option.some.inj hf
        subst hf
        exact GG.iret C E dX0_with_53
      · have hf := if_t hf c7
        refine GG.aload_n C dX0_with_31 0 rfl ?_
        refine GG.bipush C dX0_with_32 bp_8 ?_
        obtain ⟨p12, hp12, hf⟩ := obd_some hf
        refine GG.c_X0_124 C rfl (gX0_none hp12) c1 ⟨Nat.le_of_ble_eq_true rfl, Nat.le_of_ble_eq_true rfl⟩ ⟨Nat.le_of_ble_eq_true rfl, Nat.le_of_ble_eq_true rfl⟩ (Nat.le_of_ble_eq_true rfl) dX0_with_34 ?_
        refine GG.goto C (tgt := 53) dX0_with_37 (by decide) ?_
        have hf := Option.some.inj hf
        subst hf
        exact GG.iret C E dX0_with_53
    · have hf := if_t hf c6
      refine GG.aload_n C dX0_with_17 0 rfl ?_
      refine GG.iconst C dX0_with_18 ic_2 ?_
      obtain ⟨p13, hp13, hf⟩ := obd_some hf
      refine GG.c_X0_124 C rfl (gX0_none hp13) c1 ⟨Nat.le_of_ble_eq_true rfl, Nat.le_of_ble_eq_true rfl⟩ ⟨Nat.le_of_ble_eq_true rfl, Nat.le_of_ble_eq_true rfl⟩ (Nat.le_of_ble_eq_true rfl) dX0_with_19 ?_
      have hf := Option.some.inj hf
      subst hf
      exact GG.iret C E dX0_with_22
theorem gX4_isQuiet_2 {K : gK} {X : gX} {S : Option MS} {M : XS} (C : gC K X cX4_isQuiet 3 yX4_isQuiet (some Jvm.ClassFile.FieldType.boolean) rX4_isQuiet)  {o : Int32} (E : gE K X (some (.int o)) M S rX4_isQuiet.cells rX4_isQuiet.slots)   :
    ∀ (n : Nat) (a0 : Nat) (a1 : Int32) (a2 : Int32), fX4_isQuiet_2 M n a0 a1 a2 = some o → GG K X 3 0 0 M S 2 [(0, .ref a0), (1, .int a1), (2, .int a2)] [] := by
  intro n
  induction n with
  | zero => intro a0 a1 a2 hf; cases hf
  | succ n ih =>
    intro a0 a1 a2 hf
    rw [fX4_isQuiet_2] at hf
    refine GG.iload_n C dX4_isQuiet_2 2 rfl ?_
    refine GG.aload_n C dX4_isQuiet_3 0 rfl ?_
    obtain ⟨c1, hf⟩ := gd_some hf
    refine GG.gx_X4_21 C rfl c1 dX4_isQuiet_4 ?_
    refine GG.icmp_ge C (tgt := 36) dX4_isQuiet_7 (by decide) (fun c2 => ?_) (fun c2 => ?_)
    · have hf := if_t hf c2
      refine GG.iconst C dX4_isQuiet_36 ic_1 ?_
      have hf := Option.some.inj hf
      subst hf
      exact GG.zret C zb_1 E dX4_isQuiet_37
    · have hf := if_f hf c2
      refine GG.iload_n C dX4_isQuiet_10 1 rfl ?_
      refine GG.iload_n C dX4_isQuiet_11 2 rfl ?_
      refine GG.ishr C dX4_isQuiet_12 ?_
      refine GG.iconst C dX4_isQuiet_13 ic_1 ?_
      refine GG.iand C dX4_isQuiet_14 ?_
      refine GG.iconst C dX4_isQuiet_15 ic_1 ?_
      refine GG.icmp_ne C (tgt := 30) dX4_isQuiet_16 (by decide) (fun c3 => ?_) (fun c3 => ?_)
      · have hf := if_f hf c3
        refine GG.iinc C (v := (a2 + (nI 1))) (lv' := [(2, .int (a2 + (nI 1))), (0, .ref a0), (1, .int a1)]) dX4_isQuiet_30 2 rfl (congrArg (a2 + ·) ic_1) (by decide) rfl ?_
        refine GG.goto C (tgt := 2) dX4_isQuiet_33 (by decide) ?_
        refine GG.sub [1, 2, 0] rfl ?_
        exact ih _ _ _ hf
      · have hf := if_t hf c3
        refine GG.aload_n C dX4_isQuiet_19 0 rfl ?_
        refine GG.iload_n C dX4_isQuiet_20 1 rfl ?_
        refine GG.iload_n C dX4_isQuiet_21 2 rfl ?_
        obtain ⟨v4, hv4, hf⟩ := obd_some hf
        refine GG.c_X4_69 C rfl (gX4_quarrels hv4) c1 ⟨Nat.le_of_ble_eq_true rfl, Nat.le_of_ble_eq_true rfl⟩ ⟨Nat.le_of_ble_eq_true rfl, Nat.le_of_ble_eq_true rfl⟩ (Nat.le_of_ble_eq_true rfl) dX4_isQuiet_22 ?_
        refine GG.if_eq C (tgt := 30) dX4_isQuiet_25 (by decide) (fun c5 => ?_) (fun c5 => ?_)
        · have hf := if_t hf c5
          refine GG.iinc C (v := (a2 + (nI 1))) (lv' := [(2, .int (a2 + (nI 1))), (0, .ref a0), (1, .int a1)]) dX4_isQuiet_30 2 rfl (congrArg (a2 + ·) ic_1) (by decide) rfl ?_
          refine GG.goto C (tgt := 2) dX4_isQuiet_33 (by decide) ?_
          refine GG.sub [1, 2, 0] rfl ?_
          exact ih _ _ _ hf
        · have hf := if_f hf c5
          refine GG.iconst C dX4_isQuiet_28 ic_0 ?_
          have hf := Option.some.inj hf
          subst hf
          exact GG.zret C zb_0 E dX4_isQuiet_29
theorem gX4_isQuiet {K : gK} {S : Option MS}  {M : XS} {a0 : Nat} {a1 : Int32} {o : Int32} (hf : fX4_isQuiet M a0 a1 = some o) : gMet K yX4_isQuiet cX4_isQuiet 3 (some Jvm.ClassFile.FieldType.boolean) rX4_isQuiet [(.ref a0), (.int a1)] M S (some (.int o)) M S := by
  refine gMet.of pn_X4 (Nat.le_of_ble_eq_true rfl) fun X C E => ?_
  unfold fX4_isQuiet at hf
  show GG K X 3 0 0 M S 0 [(0, .ref a0), (1, .int a1)] []
  refine GG.iconst C dX4_isQuiet_0 ic_0 ?_
  refine GG.istore_n C (lv' := [(2, .int (nI 0)), (0, .ref a0), (1, .int a1)]) dX4_isQuiet_1 (by decide) rfl ?_
  refine GG.sub [1, 2, 0] rfl ?_
  exact gX4_isQuiet_2 C E  FU _ _ _ hf
theorem gX0_quietest_48 {K : gK} {X : gX} {S : Option MS} {M : XS} (C : gC K X cX0_quietest 5 yX0_quietest (some Jvm.ClassFile.FieldType.int) rX0_quietest)  {o : Int32} (E : gE K X (some (.int o)) M S rX0_quietest.cells rX0_quietest.slots) {k4 : Nat → Int32 → Int32 → Int32 → Option Int32} (hk4 : ∀ (a0 : Nat) (a1 : Int32) (a2 : Int32) (a3 : Int32), k4 a0 a1 a2 a3 = some o → GG K X 5 0 0 M S 4 [(0, .ref a0), (1, .int a1), (2, .int a2), (3, .int a3)] []) :
    ∀ (a0 : Nat) (a1 : Int32) (a2 : Int32) (a3 : Int32), fX0_quietest_48 M k4 a0 a1 a2 a3 = some o → GG K X 5 0 0 M S 48 [(0, .ref a0), (1, .int a1), (2, .int a2), (3, .int a3)] [] := by
  intro a0 a1 a2 a3 hf
  unfold fX0_quietest_48 at hf
  refine GG.aload_n C dX0_quietest_48 0 rfl ?_
  obtain ⟨c10, hf⟩ := gd_some hf
  obtain ⟨r11, hr11, hf⟩ := obd_some hf
  refine GG.gx_X0_37 C rfl c10 hr11 dX0_quietest_49 ?_
  refine GG.iload_n C dX0_quietest_52 3 rfl ?_
  obtain ⟨c12, hf⟩ := gd_some hf
  obtain ⟨v13, hv13, hf⟩ := obd_some hf
  refine GG.c_X0_254 C rfl (gX4_holds hv13) c12 ⟨Nat.le_of_ble_eq_true rfl, Nat.le_of_ble_eq_true rfl⟩ ⟨Nat.le_of_ble_eq_true rfl, Nat.le_of_ble_eq_true rfl⟩ (Nat.le_of_ble_eq_true rfl) dX0_quietest_53 ?_
  refine GG.if_eq C (tgt := 72) dX0_quietest_56 (by decide) (fun c14 => ?_) (fun c14 => ?_)
  · have hf := if_t hf c14
    refine GG.iload_n C dX0_quietest_72 3 rfl ?_
    refine GG.iconst C dX0_quietest_73 ic_1 ?_
    refine GG.isub C dX0_quietest_74 ?_
    refine GG.iload_n C dX0_quietest_75 1 rfl ?_
    refine GG.iand C dX0_quietest_76 ?_
    refine GG.topi fun x15 hx15 => ?_
    have hf := ltb_s hx15 hf
    refine GG.istore_n C (lv' := [(3, .int x15), (0, .ref a0), (1, .int a1), (2, .int a2)]) dX0_quietest_77 (by decide) rfl ?_
    refine GG.goto C (tgt := 4) dX0_quietest_78 (by decide) ?_
    refine GG.sub [1, 2, 3, 0] rfl ?_
    exact hk4 _ _ _ _ hf
  · have hf := if_f hf c14
    refine GG.aload_n C dX0_quietest_59 0 rfl ?_
    obtain ⟨r16, hr16, hf⟩ := obd_some hf
    refine GG.gx_X0_37 C rfl c10 hr16 dX0_quietest_60 ?_
    refine GG.iload_n C dX0_quietest_63 3 rfl ?_
    obtain ⟨c17, hf⟩ := gd_some hf
    obtain ⟨v18, hv18, hf⟩ := obd_some hf
    refine GG.c_X0_299 C rfl (gX4_isQuiet hv18) c17 ⟨Nat.le_of_ble_eq_true rfl, Nat.le_of_ble_eq_true rfl⟩ ⟨Nat.le_of_ble_eq_true rfl, Nat.le_of_ble_eq_true rfl⟩ (Nat.le_of_ble_eq_true rfl) dX0_quietest_64 ?_
    refine GG.if_eq C (tgt := 72) dX0_quietest_67 (by decide) (fun c19 => ?_) (fun c19 => ?_)
    · have hf := if_t hf c19
      refine GG.iload_n C dX0_quietest_72 3 rfl ?_
      refine GG.iconst C dX0_quietest_73 ic_1 ?_
      refine GG.isub C dX0_quietest_74 ?_
      refine GG.iload_n C dX0_quietest_75 1 rfl ?_
      refine GG.iand C dX0_quietest_76 ?_
      refine GG.topi fun x20 hx20 => ?_
      have hf := ltb_s hx20 hf
      refine GG.istore_n C (lv' := [(3, .int x20), (0, .ref a0), (1, .int a1), (2, .int a2)]) dX0_quietest_77 (by decide) rfl ?_
      refine GG.goto C (tgt := 4) dX0_quietest_78 (by decide) ?_
      refine GG.sub [1, 2, 3, 0] rfl ?_
      exact hk4 _ _ _ _ hf
    · have hf := if_f hf c19
      refine GG.iload_n C dX0_quietest_70 3 rfl ?_
      refine GG.istore_n C (lv' := [(2, .int a3), (0, .ref a0), (1, .int a1), (3, .int a3)]) dX0_quietest_71 (by decide) rfl ?_
      refine GG.iload_n C dX0_quietest_72 3 rfl ?_
      refine GG.iconst C dX0_quietest_73 ic_1 ?_
      refine GG.isub C dX0_quietest_74 ?_
      refine GG.iload_n C dX0_quietest_75 2 rfl ?_
      refine GG.iand C dX0_quietest_76 ?_
      refine GG.topi fun x21 hx21 => ?_
      have hf := ltb_s hx21 hf
      refine GG.istore_n C (lv' := [(3, .int x21), (2, .int a3), (0, .ref a0), (1, .int a1)]) dX0_quietest_77 (by decide) rfl ?_
      refine GG.goto C (tgt := 4) dX0_quietest_78 (by decide) ?_
      refine GG.sub [2, 3, 1, 0] rfl ?_
      exact hk4 _ _ _ _ hf
theorem gX0_quietest_4 {K : gK} {X : gX} {S : Option MS} {M : XS} (C : gC K X cX0_quietest 5 yX0_quietest (some Jvm.ClassFile.FieldType.int) rX0_quietest)  {o : Int32} (E : gE K X (some (.int o)) M S rX0_quietest.cells rX0_quietest.slots)   :
    ∀ (n : Nat) (a0 : Nat) (a1 : Int32) (a2 : Int32) (a3 : Int32), fX0_quietest_4 M n a0 a1 a2 a3 = some o → GG K X 5 0 0 M S 4 [(0, .ref a0), (1, .int a1), (2, .int a2), (3, .int a3)] [] := by
  intro n
  induction n with
  | zero => intro a0 a1 a2 a3 hf; cases hf
  | succ n ih =>
    intro a0 a1 a2 a3 hf
    rw [fX0_quietest_4] at hf
    refine GG.iload_n C dX0_quietest_4 3 rfl ?_
    refine GG.if_le C (tgt := 81) dX0_quietest_5 (by decide) (fun c1 => ?_) (fun c1 => ?_)
    · have hf := if_t hf c1
      refine GG.iload_n C dX0_quietest_81 2 rfl ?_
      have hf := Option.some.inj hf
      subst hf
      exact GG.iret C E dX0_quietest_82
    · have hf := if_f hf c1
      refine GG.iload_n C dX0_quietest_8 3 rfl ?_
      obtain ⟨v2, hv2, hf⟩ := obd_some hf
      refine GG.c_X0_219 C rfl (gJ12_bitCount hv2) ⟨Nat.le_of_ble_eq_true rfl, Nat.le_of_ble_eq_true rfl⟩ ⟨Nat.le_of_ble_eq_true rfl, Nat.le_of_ble_eq_true rfl⟩ (Nat.le_of_ble_eq_true rfl) dX0_quietest_9 ?_
      refine GG.istore C (lv' := [(4, .int v2), (0, .ref a0), (1, .int a1), (2, .int a2), (3, .int a3)]) dX0_quietest_12 (by decide) rfl ?_
      refine GG.iload C dX0_quietest_14 0 rfl ?_
      refine GG.iload_n C dX0_quietest_16 3 rfl ?_
      obtain ⟨v3, hv3, hf⟩ := obd_some hf
      refine GG.c_X0_219 C rfl (gJ12_bitCount hv3) ⟨Nat.le_of_ble_eq_true rfl, Nat.le_of_ble_eq_true rfl⟩ ⟨Nat.le_of_ble_eq_true rfl, Nat.le_of_ble_eq_true rfl⟩ (Nat.le_of_ble_eq_true rfl) dX0_quietest_17 ?_
      refine GG.icmp_lt C (tgt := 72) dX0_quietest_20 (by decide) (fun c4 => ?_) (fun c4 => ?_)
      · have hf := if_t hf c4
        refine GG.iload_n C dX0_quietest_72 4 rfl ?_
        refine GG.iconst C dX0_quietest_73 ic_1 ?_
        refine GG.isub C dX0_quietest_74 ?_
        refine GG.iload_n C dX0_quietest_75 2 rfl ?_
        refine GG.iand C dX0_quietest_76 ?_
        refine GG.topi fun x5 hx5 => ?_
        have hf := ltb_s hx5 hf
        refine GG.istore_n C (lv' := [(3, .int x5), (4, .int v2), (0, .ref a0), (1, .int a1), (2, .int a2)]) dX0_quietest_77 (by decide) rfl ?_
        refine GG.goto C (tgt := 4) dX0_quietest_78 (by decide) ?_
        refine GG.sub [2, 3, 4, 0] rfl ?_
        exact ih _ _ _ _ hf
      · have hf := if_f hf c4
        refine GG.iload C dX0_quietest_23 0 rfl ?_
        refine GG.iload_n C dX0_quietest_25 3 rfl ?_
        obtain ⟨v6, hv6, hf⟩ := obd_some hf
        refine GG.c_X0_219 C rfl (gJ12_bitCount hv6) ⟨Nat.le_of_ble_eq_true rfl, Nat.le_of_ble_eq_true rfl⟩ ⟨Nat.le_of_ble_eq_true rfl, Nat.le_of_ble_eq_true rfl⟩ (Nat.le_of_ble_eq_true rfl) dX0_quietest_26 ?_
        refine GG.icmp_ne C (tgt := 48) dX0_quietest_29 (by decide) (fun c7 => ?_) (fun c7 => ?_)
        · have hf := if_f hf c7
          refine GG.sub [1, 2, 3, 4] rfl ?_
          exact gX0_quietest_48 C E (hk4 := ih) _ _ _ _ hf
        · have hf := if_t hf c7
          refine GG.iload_n C dX0_quietest_32 2 rfl ?_
          refine GG.iload_n C dX0_quietest_33 4 rfl ?_
          refine GG.iconst C dX0_quietest_34 ic_m1 ?_
          refine GG.ixor C dX0_quietest_35 ?_
          refine GG.iand C dX0_quietest_36 ?_
          refine GG.iload_n C dX0_quietest_37 2 rfl ?_
          refine GG.iload_n C dX0_quietest_38 3 rfl ?_
          refine GG.iconst C dX0_quietest_39 ic_m1 ?_
          refine GG.ixor C dX0_quietest_40 ?_
          refine GG.iand C dX0_quietest_41 ?_
          refine GG.icmp_lt C (tgt := 48) dX0_quietest_42 (by decide) (fun c8 => ?_) (fun c8 => ?_)
          · have hf := if_t hf c8
            refine GG.sub [1, 2, 3, 4] rfl ?_
            exact gX0_quietest_48 C E (hk4 := ih) _ _ _ _ hf
          · have hf := if_f hf c8
            refine GG.goto C (tgt := 72) dX0_quietest_45 (by decide) ?_
            refine GG.iload_n C dX0_quietest_72 4 rfl ?_
            refine GG.iconst C dX0_quietest_73 ic_1 ?_
            refine GG.isub C dX0_quietest_74 ?_
            refine GG.iload_n C dX0_quietest_75 2 rfl ?_
            refine GG.iand C dX0_quietest_76 ?_
            refine GG.topi fun x9 hx9 => ?_
            have hf := ltb_s hx9 hf
            refine GG.istore_n C (lv' := [(3, .int x9), (4, .int v2), (0, .ref a0), (1, .int a1), (2, .int a2)]) dX0_quietest_77 (by decide) rfl ?_
            refine GG.goto C (tgt := 4) dX0_quietest_78 (by decide) ?_
            refine GG.sub [2, 3, 4, 0] rfl ?_
            exact ih _ _ _ _ hf
theorem gX0_quietest {K : gK} {S : Option MS}  {M : XS} {a0 : Nat} {a1 : Int32} {o : Int32} (hf : fX0_quietest M a0 a1 = some o) : gMet K yX0_quietest cX0_quietest 5 (some Jvm.ClassFile.FieldType.int) rX0_quietest [(.ref a0), (.int a1)] M S (some (.int o)) M S := by
  refine gMet.of pn_X0 (Nat.le_of_ble_eq_true rfl) fun X C E => ?_
  unfold fX0_quietest at hf
  show GG K X 5 0 0 M S 0 [(0, .ref a0), (1, .int a1)] []
  refine GG.iconst C dX0_quietest_0 ic_0 ?_
  refine GG.istore_n C (lv' := [(2, .int (nI 0)), (0, .ref a0), (1, .int a1)]) dX0_quietest_1 (by decide) rfl ?_
  refine GG.iload_n C dX0_quietest_2 2 rfl ?_
  refine GG.istore_n C (lv' := [(3, .int a1), (2, .int (nI 0)), (0, .ref a0), (1, .int a1)]) dX0_quietest_3 (by decide) rfl ?_
  refine GG.sub [2, 3, 1, 0] rfl ?_
  exact gX0_quietest_4 C E  FU _ _ _ _ hf
theorem gX0_leastOut {K : gK} {S : Option MS}  {M : XS} {a0 : Nat} {a1 : Int32} {o : (Int32 × XS)} (hf : fX0_leastOut M a0 a1 = some o) : gMet K yX0_leastOut cX0_leastOut 3 (some Jvm.ClassFile.FieldType.int) rX0_leastOut [(.ref a0), (.int a1)] M S (some (.int o.1)) o.2 S := by
  refine gMet.of pn_X0 (Nat.le_of_ble_eq_true rfl) fun X C E => ?_
  unfold fX0_leastOut at hf
  show GG K X 3 0 0 M S 0 [(0, .ref a0), (1, .int a1)] []
  refine GG.aload_n C dX0_leastOut_0 0 rfl ?_
  refine GG.iload_n C dX0_leastOut_1 1 rfl ?_
  obtain ⟨c1, hf⟩ := gd_some hf
  obtain ⟨v2, hv2, hf⟩ := obd_some hf
  refine GG.c_X0_270 C rfl (gX0_wrongSet hv2) c1 ⟨Nat.le_of_ble_eq_true rfl, Nat.le_of_ble_eq_true rfl⟩ ⟨Nat.le_of_ble_eq_true rfl, Nat.le_of_ble_eq_true rfl⟩ (Nat.le_of_ble_eq_true rfl) dX0_leastOut_2 ?_
  refine GG.istore_n C (lv' := [(2, .int v2), (0, .ref a0), (1, .int a1)]) dX0_leastOut_5 (by decide) rfl ?_
  refine GG.iload_n C dX0_leastOut_6 0 rfl ?_
  refine GG.if_le C (tgt := 18) dX0_leastOut_7 (by decide) (fun c3 => ?_) (fun c3 => ?_)
  · have hf := if_t hf c3
    refine GG.aload_n C dX0_leastOut_18 1 rfl ?_
    refine GG.iload_n C dX0_leastOut_19 2 rfl ?_
    refine GG.aload_n C dX0_leastOut_20 1 rfl ?_
    refine GG.iload_n C dX0_leastOut_21 2 rfl ?_
    obtain ⟨v4, hv4, hf⟩ := obd_some hf
    refine GG.c_X0_302 C rfl (gX0_quietest hv4) c1 ⟨Nat.le_of_ble_eq_true rfl, Nat.le_of_ble_eq_true rfl⟩ ⟨Nat.le_of_ble_eq_true rfl, Nat.le_of_ble_eq_true rfl⟩ (Nat.le_of_ble_eq_true rfl) dX0_leastOut_22 ?_
    refine GG.iconst C dX0_leastOut_25 ic_m1 ?_
    refine GG.ixor C dX0_leastOut_26 ?_
    refine GG.iand C dX0_leastOut_27 ?_
    obtain ⟨p5, hp5, hf⟩ := obd_some hf
    refine GG.c_X0_197 C rfl (gX0_gives hp5) c1 ⟨Nat.le_of_ble_eq_true rfl, Nat.le_of_ble_eq_true rfl⟩ ⟨Nat.le_of_ble_eq_true rfl, Nat.le_of_ble_eq_true rfl⟩ (Nat.le_of_ble_eq_true rfl) dX0_leastOut_28 ?_
    have hf := Option.some.inj hf
    subst hf
    exact GG.iret C E dX0_leastOut_31
  · have hf := if_f hf c3
    refine GG.aload_n C dX0_leastOut_10 1 rfl ?_
    refine GG.iload_n C dX0_leastOut_11 0 rfl ?_
    obtain ⟨p6, hp6, hf⟩ := obd_some hf
    refine GG.c_X0_124 C rfl (gX0_none hp6) c1 ⟨Nat.le_of_ble_eq_true rfl, Nat.le_of_ble_eq_true rfl⟩ ⟨Nat.le_of_ble_eq_true rfl, Nat.le_of_ble_eq_true rfl⟩ (Nat.le_of_ble_eq_true rfl) dX0_leastOut_12 ?_
    refine GG.goto C (tgt := 31) dX0_leastOut_15 (by decide) ?_
    have hf := Option.some.inj hf
    subst hf
    exact GG.iret C E dX0_leastOut_31
theorem gX0_mostQuiet {K : gK} {S : Option MS}  {M : XS} {a0 : Nat} {o : (Int32 × XS)} (hf : fX0_mostQuiet M a0 = some o) : gMet K yX0_mostQuiet cX0_mostQuiet 1 (some Jvm.ClassFile.FieldType.int) rX0_mostQuiet [(.ref a0)] M S (some (.int o.1)) o.2 S := by
  refine gMet.of pn_X0 (Nat.le_of_ble_eq_true rfl) fun X C E => ?_
  unfold fX0_mostQuiet at hf
  show GG K X 1 0 0 M S 0 [(0, .ref a0)] []
  refine GG.aload_n C dX0_mostQuiet_0 0 rfl ?_
  refine GG.aload_n C dX0_mostQuiet_1 0 rfl ?_
  refine GG.aload_n C dX0_mostQuiet_2 0 rfl ?_
  obtain ⟨c1, hf⟩ := gd_some hf
  obtain ⟨r2, hr2, hf⟩ := obd_some hf
  refine GG.gx_X0_37 C rfl c1 hr2 dX0_mostQuiet_3 ?_
  obtain ⟨c3, hf⟩ := gd_some hf
  obtain ⟨v4, hv4, hf⟩ := obd_some hf
  refine GG.c_X0_155 C rfl (gX4_all hv4) c3 ⟨Nat.le_of_ble_eq_true rfl, Nat.le_of_ble_eq_true rfl⟩ ⟨Nat.le_of_ble_eq_true rfl, Nat.le_of_ble_eq_true rfl⟩ (Nat.le_of_ble_eq_true rfl) dX0_mostQuiet_6 ?_
  obtain ⟨v5, hv5, hf⟩ := obd_some hf
  refine GG.c_X0_302 C rfl (gX0_quietest hv5) c1 ⟨Nat.le_of_ble_eq_true rfl, Nat.le_of_ble_eq_true rfl⟩ ⟨Nat.le_of_ble_eq_true rfl, Nat.le_of_ble_eq_true rfl⟩ (Nat.le_of_ble_eq_true rfl) dX0_mostQuiet_9 ?_
  obtain ⟨v6, hv6, hf⟩ := obd_some hf
  refine GG.c_X0_219 C rfl (gJ12_bitCount hv6) ⟨Nat.le_of_ble_eq_true rfl, Nat.le_of_ble_eq_true rfl⟩ ⟨Nat.le_of_ble_eq_true rfl, Nat.le_of_ble_eq_true rfl⟩ (Nat.le_of_ble_eq_true rfl) dX0_mostQuiet_12 ?_
  obtain ⟨p7, hp7, hf⟩ := obd_some hf
  refine GG.c_X0_197 C rfl (gX0_gives hp7) c1 ⟨Nat.le_of_ble_eq_true rfl, Nat.le_of_ble_eq_true rfl⟩ ⟨Nat.le_of_ble_eq_true rfl, Nat.le_of_ble_eq_true rfl⟩ (Nat.le_of_ble_eq_true rfl) dX0_mostQuiet_15 ?_
  have hf := Option.some.inj hf
  subst hf
  exact GG.iret C E dX0_mostQuiet_18
theorem gX0_mayCome {K : gK} {S : Option MS}  {M : XS} {a0 : Nat} {a1 : Int32} {a2 : Int32} {o : Int32} (hf : fX0_mayCome M a0 a1 a2 = some o) : gMet K yX0_mayCome cX0_mayCome 3 (some Jvm.ClassFile.FieldType.boolean) rX0_mayCome [(.ref a0), (.int a1), (.int a2)] M S (some (.int o)) M S := by
  refine gMet.of pn_X0 (Nat.le_of_ble_eq_true rfl) fun X C E => ?_
  unfold fX0_mayCome at hf
  show GG K X 3 0 0 M S 0 [(0, .ref a0), (1, .int a1), (2, .int a2)] []
  refine GG.iload_n C dX0_mayCome_0 1 rfl ?_
  refine GG.iload_n C dX0_mayCome_1 2 rfl ?_
  refine GG.ishr C dX0_mayCome_2 ?_
  refine GG.iconst C dX0_mayCome_3 ic_1 ?_
  refine GG.iand C dX0_mayCome_4 ?_
  refine GG.if_ne C (tgt := 31) dX0_mayCome_5 (by decide) (fun c1 => ?_) (fun c1 => ?_)
  · have hf := if_f hf c1
    refine GG.iconst C dX0_mayCome_31 ic_0 ?_
    have hf := Option.some.inj hf
    subst hf
    exact GG.zret C zb_0 E dX0_mayCome_32
  · have hf := if_t hf c1
    refine GG.aload_n C dX0_mayCome_8 0 rfl ?_
    obtain ⟨c2, hf⟩ := gd_some hf
    obtain ⟨r3, hr3, hf⟩ := obd_some hf
    refine GG.gx_X0_37 C rfl c2 hr3 dX0_mayCome_9 ?_
    obtain ⟨c4, hf⟩ := gd_some hf
    obtain ⟨r5, hr5, hf⟩ := obd_some hf
    refine GG.gx_X0_208 C rfl c4 hr5 dX0_mayCome_12 ?_
    refine GG.iload_n C dX0_mayCome_15 2 rfl ?_
    obtain ⟨r6, hr6, hf⟩ := obd_some hf
    refine GG.aald C 0 hr6 (by decide) dX0_mayCome_16 ?_
    obtain ⟨c7, hf⟩ := gd_some hf
    refine GG.gx_X0_245 C rfl c7 dX0_mayCome_17 ?_
    refine GG.iload_n C dX0_mayCome_20 1 rfl ?_
    refine GG.iconst C dX0_mayCome_21 ic_m1 ?_
    refine GG.ixor C dX0_mayCome_22 ?_
    refine GG.iand C dX0_mayCome_23 ?_
    refine GG.if_ne C (tgt := 31) dX0_mayCome_24 (by decide) (fun c8 => ?_) (fun c8 => ?_)
    · have hf := if_f hf c8
      refine GG.iconst C dX0_mayCome_31 ic_0 ?_
      have hf := Option.some.inj hf
      subst hf
      exact GG.zret C zb_0 E dX0_mayCome_32
    · have hf := if_t hf c8
      refine GG.iconst C dX0_mayCome_27 ic_1 ?_
      refine GG.goto C (tgt := 32) dX0_mayCome_28 (by decide) ?_
      have hf := Option.some.inj hf
      subst hf
      exact GG.zret C zb_1 E dX0_mayCome_32
theorem gX0_counts_26 {K : gK} {X : gX} {S : Option MS} (C : gC K X cX0_counts 4 yX0_counts none rX0_counts)  {o : XS} (E : gE K X none o S rX0_counts.cells rX0_counts.slots) {k13 : XS → Nat → Int32 → Int32 → Option XS} (hk13 : ∀ (M : XS) (a0 : Nat) (a1 : Int32) (a2 : Int32), k13 M a0 a1 a2 = some o → GG K X 4 0 0 M S 13 [(0, .ref a0), (1, .int a1), (2, .int a2)] []) :
    ∀ (n : Nat) (M : XS) (a0 : Nat) (a1 : Int32) (a2 : Int32) (a3 : Int32), fX0_counts_26 k13 n M a0 a1 a2 a3 = some o → GG K X 4 0 0 M S 26 [(0, .ref a0), (1, .int a1), (2, .int a2), (3, .int a3)] [] := by
  intro n
  induction n with
  | zero => intro M a0 a1 a2 a3 hf; cases hf
  | succ n ih =>
    intro M a0 a1 a2 a3 hf
    rw [fX0_counts_26] at hf
    refine GG.iload_n C dX0_counts_26 3 rfl ?_
    refine GG.aload_n C dX0_counts_27 0 rfl ?_
    obtain ⟨c9, hf⟩ := gd_some hf
    obtain ⟨r10, hr10, hf⟩ := obd_some hf
    refine GG.gx_X0_37 C rfl c9 hr10 dX0_counts_28 ?_
    obtain ⟨c11, hf⟩ := gd_some hf
    refine GG.gx_X0_149 C rfl c11 dX0_counts_31 ?_
    refine GG.icmp_ge C (tgt := 80) dX0_counts_34 (by decide) (fun c12 => ?_) (fun c12 => ?_)
    · have hf := if_t hf c12
      refine GG.iload_n C dX0_counts_80 2 rfl ?_
      refine GG.if_ne C (tgt := 85) dX0_counts_81 (by decide) (fun c13 => ?_) (fun c13 => ?_)
      · have hf := if_f hf c13
        refine GG.iload_n C dX0_counts_85 2 rfl ?_
        refine GG.iconst C dX0_counts_86 ic_1 ?_
        refine GG.isub C dX0_counts_87 ?_
        refine GG.iload_n C dX0_counts_88 1 rfl ?_
        refine GG.iand C dX0_counts_89 ?_
        refine GG.topi fun x14 hx14 => ?_
        have hf := ltb_s hx14 hf
        refine GG.istore_n C (lv' := [(2, .int x14), (0, .ref a0), (1, .int a1), (3, .int a3)]) dX0_counts_90 (by decide) rfl ?_
        refine GG.goto C (tgt := 13) dX0_counts_91 (by decide) ?_
        refine GG.sub [1, 2, 0] rfl ?_
        exact hk13 _ _ _ _ hf
      · have hf := if_t hf c13
        have hf := Option.some.inj hf
        subst hf
        exact GG.vret C E dX0_counts_84
    · have hf := if_f hf c12
      refine GG.iload_n C dX0_counts_37 1 rfl ?_
      refine GG.iload_n C dX0_counts_38 3 rfl ?_
      refine GG.ishr C dX0_counts_39 ?_
      refine GG.iconst C dX0_counts_40 ic_1 ?_
      refine GG.iand C dX0_counts_41 ?_
      refine GG.iconst C dX0_counts_42 ic_1 ?_
      refine GG.icmp_ne C (tgt := 74) dX0_counts_43 (by decide) (fun c15 => ?_) (fun c15 => ?_)
      · have hf := if_f hf c15
        refine GG.iinc C (v := (a3 + (nI 1))) (lv' := [(3, .int (a3 + (nI 1))), (0, .ref a0), (1, .int a1), (2, .int a2)]) dX0_counts_74 3 rfl (congrArg (a3 + ·) ic_1) (by decide) rfl ?_
        refine GG.goto C (tgt := 26) dX0_counts_77 (by decide) ?_
        refine GG.sub [1, 2, 3, 0] rfl ?_
        exact ih _ _ _ _ _ hf
      · have hf := if_t hf c15
        refine GG.aload_n C dX0_counts_46 0 rfl ?_
        refine GG.iload_n C dX0_counts_47 2 rfl ?_
        refine GG.iload_n C dX0_counts_48 3 rfl ?_
        obtain ⟨v16, hv16, hf⟩ := obd_some hf
        refine GG.c_X0_305 C rfl (gX0_mayCome hv16) c9 ⟨Nat.le_of_ble_eq_true rfl, Nat.le_of_ble_eq_true rfl⟩ ⟨Nat.le_of_ble_eq_true rfl, Nat.le_of_ble_eq_true rfl⟩ (Nat.le_of_ble_eq_true rfl) dX0_counts_49 ?_
        refine GG.if_eq C (tgt := 74) dX0_counts_52 (by decide) (fun c17 => ?_) (fun c17 => ?_)
        · have hf := if_t hf c17
          refine GG.iinc C (v := (a3 + (nI 1))) (lv' := [(3, .int (a3 + (nI 1))), (0, .ref a0), (1, .int a1), (2, .int a2)]) dX0_counts_74 3 rfl (congrArg (a3 + ·) ic_1) (by decide) rfl ?_
          refine GG.goto C (tgt := 26) dX0_counts_77 (by decide) ?_
          refine GG.sub [1, 2, 3, 0] rfl ?_
          exact ih _ _ _ _ _ hf
        · have hf := if_f hf c17
          refine GG.aload_n C dX0_counts_55 0 rfl ?_
          obtain ⟨r18, hr18, hf⟩ := obd_some hf
          refine GG.gx_X0_62 C rfl c9 hr18 dX0_counts_56 ?_
          refine GG.iload_n C dX0_counts_59 2 rfl ?_
          refine GG.dup2 C dX0_counts_60 rfl rfl ?_
          obtain ⟨v19, hv19, hf⟩ := obd_some hf
          refine GG.lald C hv19 dX0_counts_61 ?_
          refine GG.aload_n C dX0_counts_62 0 rfl ?_
          obtain ⟨r20, hr20, hf⟩ := obd_some hf
          refine GG.gx_X0_62 C rfl c9 hr20 dX0_counts_63 ?_
          refine GG.iload_n C dX0_counts_66 2 rfl ?_
          refine GG.iconst C dX0_counts_67 ic_1 ?_
          refine GG.iload_n C dX0_counts_68 3 rfl ?_
          refine GG.ishl C dX0_counts_69 ?_
          refine GG.ior C dX0_counts_70 ?_
          obtain ⟨v21, hv21, hf⟩ := obd_some hf
          refine GG.lald C hv21 dX0_counts_71 ?_
          refine GG.ladd C dX0_counts_72 ?_
          obtain ⟨M22, hM22, hf⟩ := obd_some hf
          refine GG.last C hM22 dX0_counts_73 ?_
          refine GG.iinc C (v := (a3 + (nI 1))) (lv' := [(3, .int (a3 + (nI 1))), (0, .ref a0), (1, .int a1), (2, .int a2)]) dX0_counts_74 3 rfl (congrArg (a3 + ·) ic_1) (by decide) rfl ?_
          refine GG.goto C (tgt := 26) dX0_counts_77 (by decide) ?_
          refine GG.sub [1, 2, 3, 0] rfl ?_
          exact ih _ _ _ _ _ hf
theorem gX0_counts_13 {K : gK} {X : gX} {S : Option MS} (C : gC K X cX0_counts 4 yX0_counts none rX0_counts)  {o : XS} (E : gE K X none o S rX0_counts.cells rX0_counts.slots)   :
    ∀ (n : Nat) (M : XS) (a0 : Nat) (a1 : Int32) (a2 : Int32), fX0_counts_13  n M a0 a1 a2 = some o → GG K X 4 0 0 M S 13 [(0, .ref a0), (1, .int a1), (2, .int a2)] [] := by
  intro n
  induction n with
  | zero => intro M a0 a1 a2 hf; cases hf
  | succ n ih =>
    intro M a0 a1 a2 hf
    rw [fX0_counts_13] at hf
    refine GG.iload_n C dX0_counts_13 1 rfl ?_
    refine GG.if_le C (tgt := 94) dX0_counts_14 (by decide) (fun c5 => ?_) (fun c5 => ?_)
    · have hf := if_t hf c5
      have hf := Option.some.inj hf
      subst hf
      exact GG.vret C E dX0_counts_94
    · have hf := if_f hf c5
      refine GG.aload_n C dX0_counts_17 0 rfl ?_
      obtain ⟨c6, hf⟩ := gd_some hf
      obtain ⟨r7, hr7, hf⟩ := obd_some hf
      refine GG.gx_X0_62 C rfl c6 hr7 dX0_counts_18 ?_
      refine GG.iload_n C dX0_counts_21 2 rfl ?_
      refine GG.lconst C dX0_counts_22 lc_0 ?_
      obtain ⟨M8, hM8, hf⟩ := obd_some hf
      refine GG.last C hM8 dX0_counts_23 ?_
      refine GG.iconst C dX0_counts_24 ic_0 ?_
      refine GG.istore_n C (lv' := [(3, .int (nI 0)), (0, .ref a0), (1, .int a1), (2, .int a2)]) dX0_counts_25 (by decide) rfl ?_
      refine GG.sub [1, 2, 3, 0] rfl ?_
      exact gX0_counts_26 C E (hk13 := ih) FU _ _ _ _ _ hf
theorem gX0_counts {K : gK} {S : Option MS}  {M : XS} {a0 : Nat} {a1 : Int32} {o : XS} (hf : fX0_counts M a0 a1 = some o) : gMet K yX0_counts cX0_counts 4 none rX0_counts [(.ref a0), (.int a1)] M S none o S := by
  refine gMet.of pn_X0 (Nat.le_of_ble_eq_true rfl) fun X C E => ?_
  unfold fX0_counts at hf
  show GG K X 4 0 0 M S 0 [(0, .ref a0), (1, .int a1)] []
  refine GG.aload_n C dX0_counts_0 0 rfl ?_
  obtain ⟨c1, hf⟩ := gd_some hf
  obtain ⟨r2, hr2, hf⟩ := obd_some hf
  refine GG.gx_X0_62 C rfl c1 hr2 dX0_counts_1 ?_
  refine GG.iload_n C dX0_counts_4 1 rfl ?_
  refine GG.lconst C dX0_counts_5 lc_1 ?_
  obtain ⟨M3, hM3, hf⟩ := obd_some hf
  refine GG.last C hM3 dX0_counts_6 ?_
  refine GG.iload_n C dX0_counts_7 1 rfl ?_
  refine GG.iconst C dX0_counts_8 ic_1 ?_
  refine GG.isub C dX0_counts_9 ?_
  refine GG.iload_n C dX0_counts_10 1 rfl ?_
  refine GG.iand C dX0_counts_11 ?_
  refine GG.topi fun x4 hx4 => ?_
  have hf := ltb_s hx4 hf
  refine GG.istore_n C (lv' := [(2, .int x4), (0, .ref a0), (1, .int a1)]) dX0_counts_12 (by decide) rfl ?_
  refine GG.sub [1, 2, 0] rfl ?_
  exact gX0_counts_13 C E  FU _ _ _ _ hf
theorem gX0_orders {K : gK} {S : Option MS}  {M : XS} {a0 : Nat} {a1 : Int32} {o : (Int64 × XS)} (hf : fX0_orders M a0 a1 = some o) : gMet K yX0_orders cX0_orders 3 (some Jvm.ClassFile.FieldType.long) rX0_orders [(.ref a0), (.int a1)] M S (some (.long o.1)) o.2 S := by
  refine gMet.of pn_X0 (Nat.le_of_ble_eq_true rfl) fun X C E => ?_
  unfold fX0_orders at hf
  show GG K X 3 0 0 M S 0 [(0, .ref a0), (1, .int a1)] []
  refine GG.aload_n C dX0_orders_0 0 rfl ?_
  refine GG.iload_n C dX0_orders_1 1 rfl ?_
  obtain ⟨c1, hf⟩ := gd_some hf
  obtain ⟨v2, hv2, hf⟩ := obd_some hf
  refine GG.c_X0_270 C rfl (gX0_wrongSet hv2) c1 ⟨Nat.le_of_ble_eq_true rfl, Nat.le_of_ble_eq_true rfl⟩ ⟨Nat.le_of_ble_eq_true rfl, Nat.le_of_ble_eq_true rfl⟩ (Nat.le_of_ble_eq_true rfl) dX0_orders_2 ?_
  refine GG.istore_n C (lv' := [(2, .int v2), (0, .ref a0), (1, .int a1)]) dX0_orders_5 (by decide) rfl ?_
  refine GG.iload_n C dX0_orders_6 0 rfl ?_
  refine GG.if_le C (tgt := 17) dX0_orders_7 (by decide) (fun c3 => ?_) (fun c3 => ?_)
  · have hf := if_t hf c3
    refine GG.aload_n C dX0_orders_17 1 rfl ?_
    refine GG.iload_n C dX0_orders_18 2 rfl ?_
    obtain ⟨p4, hp4, hf⟩ := obd_some hf
    refine GG.c_X0_308 C rfl (gX0_counts hp4) c1 ⟨Nat.le_of_ble_eq_true rfl, Nat.le_of_ble_eq_true rfl⟩ ⟨Nat.le_of_ble_eq_true rfl, Nat.le_of_ble_eq_true rfl⟩ (Nat.le_of_ble_eq_true rfl) dX0_orders_19 ?_
    refine GG.aload_n C dX0_orders_22 1 rfl ?_
    refine GG.iconst C dX0_orders_23 ic_0 ?_
    obtain ⟨c5, hf⟩ := gd_some hf
    refine GG.px_X0_97 C rfl c5 dX0_orders_24 ?_
    refine GG.topM fun M6 hM6 => ?_
    have hf := ltb_s hM6 hf
    refine GG.aload_n C dX0_orders_27 1 rfl ?_
    obtain ⟨c7, hf⟩ := gd_some hf
    obtain ⟨r8, hr8, hf⟩ := obd_some hf
    refine GG.gx_X0_62 C rfl c7 hr8 dX0_orders_28 ?_
    refine GG.iconst C dX0_orders_31 ic_0 ?_
    obtain ⟨v9, hv9, hf⟩ := obd_some hf
    refine GG.lald C hv9 dX0_orders_32 ?_
    have hf := Option.some.inj hf
    subst hf
    exact GG.lret C E dX0_orders_33
  · have hf := if_f hf c3
    refine GG.aload_n C dX0_orders_10 1 rfl ?_
    refine GG.iload_n C dX0_orders_11 0 rfl ?_
    obtain ⟨p10, hp10, hf⟩ := obd_some hf
    refine GG.c_X0_124 C rfl (gX0_none hp10) c1 ⟨Nat.le_of_ble_eq_true rfl, Nat.le_of_ble_eq_true rfl⟩ ⟨Nat.le_of_ble_eq_true rfl, Nat.le_of_ble_eq_true rfl⟩ (Nat.le_of_ble_eq_true rfl) dX0_orders_12 ?_
    refine GG.i2l C dX0_orders_15 ?_
    have hf := Option.some.inj hf
    subst hf
    exact GG.lret C E dX0_orders_16
theorem gX0_tell_6 {K : gK} {X : gX} {S : Option MS} (C : gC K X cX0_tell 11 yX0_tell (some Jvm.ClassFile.FieldType.boolean) rX0_tell)  {o : (Int32 × XS)} (E : gE K X (some (.int o.1)) o.2 S rX0_tell.cells rX0_tell.slots)   :
    ∀ (n : Nat) (M : XS) (a0 : Nat) (a1 : Int64) (a3 : Int64) (a5 : Int64) (a7 : Int64), fX0_tell_6  n M a0 a1 a3 a5 a7 = some o → GG K X 11 0 0 M S 6 [(0, .ref a0), (1, .long a1), (3, .long a3), (5, .long a5), (7, .long a7)] [] := by
  intro n
  induction n with
  | zero => intro M a0 a1 a3 a5 a7 hf; cases hf
  | succ n ih =>
    intro M a0 a1 a3 a5 a7 hf
    rw [fX0_tell_6] at hf
    refine GG.lload C dX0_tell_6 4 rfl ?_
    refine GG.lconst C dX0_tell_8 lc_0 ?_
    refine GG.lcmp C dX0_tell_9 ?_
    refine GG.if_eq C (tgt := 31) dX0_tell_10 (by decide) (fun c1 => ?_) (fun c1 => ?_)
    · have hf := if_t hf c1
      refine GG.aload_n C dX0_tell_31 0 rfl ?_
      refine GG.lload_n C dX0_tell_32 1 rfl ?_
      refine GG.lload C dX0_tell_33 3 rfl ?_
      obtain ⟨c2, hf⟩ := gd_some hf
      refine GG.ldiv C dX0_tell_35 c2 ?_
      obtain ⟨c3, hf⟩ := gd_some hf
      refine GG.px_X0_100 C rfl c3 dX0_tell_36 ?_
      refine GG.topM fun M4 hM4 => ?_
      have hf := ltb_s hM4 hf
      refine GG.aload_n C dX0_tell_39 0 rfl ?_
      refine GG.lload_n C dX0_tell_40 2 rfl ?_
      refine GG.lload C dX0_tell_41 3 rfl ?_
      obtain ⟨c5, hf⟩ := gd_some hf
      refine GG.ldiv C dX0_tell_43 c5 ?_
      obtain ⟨c6, hf⟩ := gd_some hf
      refine GG.px_X0_48 C rfl c6 dX0_tell_44 ?_
      refine GG.topM fun M7 hM7 => ?_
      have hf := ltb_s hM7 hf
      refine GG.aload_n C dX0_tell_47 0 rfl ?_
      refine GG.iconst C dX0_tell_48 ic_0 ?_
      obtain ⟨c8, hf⟩ := gd_some hf
      obtain ⟨p9, hp9, hf⟩ := obd_some hf
      refine GG.c_X0_103 C rfl (gX0_is hp9) c8 ⟨Nat.le_of_ble_eq_true rfl, Nat.le_of_ble_eq_true rfl⟩ ⟨Nat.le_of_ble_eq_true rfl, Nat.le_of_ble_eq_true rfl⟩ (Nat.le_of_ble_eq_true rfl) dX0_tell_49 ?_
      obtain ⟨c10, hf⟩ := gd_some hf
      have hf := Option.some.inj hf
      subst hf
      exact GG.zret C c10 E dX0_tell_52
    · have hf := if_f hf c1
      refine GG.lload C dX0_tell_13 3 rfl ?_
      refine GG.lload C dX0_tell_15 4 rfl ?_
      obtain ⟨c11, hf⟩ := gd_some hf
      refine GG.lrem C dX0_tell_17 c11 ?_
      refine GG.topl fun x12 hx12 => ?_
      have hf := ltb_s hx12 hf
      refine GG.lstore C (lv' := [(9, .long x12), (0, .ref a0), (1, .long a1), (3, .long a3), (5, .long a5), (7, .long a7)]) dX0_tell_18 (by decide) rfl ?_
      refine GG.lload C dX0_tell_20 5 rfl ?_
      refine GG.lstore C (lv' := [(5, .long a7), (9, .long x12), (0, .ref a0), (1, .long a1), (3, .long a3), (7, .long a7)]) dX0_tell_22 (by decide) rfl ?_
      refine GG.lload C dX0_tell_24 1 rfl ?_
      refine GG.lstore C (lv' := [(7, .long x12), (5, .long a7), (9, .long x12), (0, .ref a0), (1, .long a1), (3, .long a3)]) dX0_tell_26 (by decide) rfl ?_
      refine GG.goto C (tgt := 6) dX0_tell_28 (by decide) ?_
      refine GG.sub [3, 4, 5, 1, 0] rfl ?_
      exact ih _ _ _ _ _ _ hf
theorem gX0_tell {K : gK} {S : Option MS}  {M : XS} {a0 : Nat} {a1 : Int64} {a3 : Int64} {o : (Int32 × XS)} (hf : fX0_tell M a0 a1 a3 = some o) : gMet K yX0_tell cX0_tell 11 (some Jvm.ClassFile.FieldType.boolean) rX0_tell [(.ref a0), (.long a1), (.long a3)] M S (some (.int o.1)) o.2 S := by
  refine gMet.of pn_X0 (Nat.le_of_ble_eq_true rfl) fun X C E => ?_
  unfold fX0_tell at hf
  show GG K X 11 0 0 M S 0 [(0, .ref a0), (1, .long a1), (3, .long a3)] []
  refine GG.lload_n C dX0_tell_0 1 rfl ?_
  refine GG.lstore C (lv' := [(5, .long a1), (0, .ref a0), (1, .long a1), (3, .long a3)]) dX0_tell_1 (by decide) rfl ?_
  refine GG.lload_n C dX0_tell_3 3 rfl ?_
  refine GG.lstore C (lv' := [(7, .long a3), (5, .long a1), (0, .ref a0), (1, .long a1), (3, .long a3)]) dX0_tell_4 (by decide) rfl ?_
  refine GG.sub [2, 3, 4, 1, 0] rfl ?_
  exact gX0_tell_6 C E  FU _ _ _ _ _ _ hf
theorem gX0_ahead_145 {K : gK} {X : gX} {S : Option MS} (C : gC K X cX0_ahead 8 yX0_ahead (some Jvm.ClassFile.FieldType.boolean) rX0_ahead)  {o : (Int32 × XS)} (E : gE K X (some (.int o.1)) o.2 S rX0_ahead.cells rX0_ahead.slots) {k112 : XS → Nat → Int32 → Int32 → Int32 → Int64 → Int32 → Option (Int32 × XS)} (hk112 : ∀ (M : XS) (a0 : Nat) (a1 : Int32) (a2 : Int32) (a3 : Int32) (a4 : Int64) (a6 : Int32), k112 M a0 a1 a2 a3 a4 a6 = some o → GG K X 8 0 0 M S 112 [(0, .ref a0), (1, .int a1), (2, .int a2), (3, .int a3), (4, .long a4), (6, .int a6)] []) :
    ∀ (n : Nat) (M : XS) (a0 : Nat) (a1 : Int32) (a2 : Int32) (a3 : Int32) (a4 : Int64) (a6 : Int32) (a7 : Int32), fX0_ahead_145 k112 n M a0 a1 a2 a3 a4 a6 a7 = some o → GG K X 8 0 0 M S 145 [(0, .ref a0), (1, .int a1), (2, .int a2), (3, .int a3), (4, .long a4), (6, .int a6), (7, .int a7)] [] := by
  intro n
  induction n with
  | zero => intro M a0 a1 a2 a3 a4 a6 a7 hf; cases hf
  | succ n ih =>
    intro M a0 a1 a2 a3 a4 a6 a7 hf
    rw [fX0_ahead_145] at hf
    refine GG.iload C dX0_ahead_145 6 rfl ?_
    refine GG.aload_n C dX0_ahead_147 0 rfl ?_
    obtain ⟨c46, hf⟩ := gd_some hf
    obtain ⟨r47, hr47, hf⟩ := obd_some hf
    refine GG.gx_X0_37 C rfl c46 hr47 dX0_ahead_148 ?_
    obtain ⟨c48, hf⟩ := gd_some hf
    refine GG.gx_X0_149 C rfl c48 dX0_ahead_151 ?_
    refine GG.icmp_ge C (tgt := 248) dX0_ahead_154 (by decide) (fun c49 => ?_) (fun c49 => ?_)
    · have hf := if_t hf c49
      refine GG.iinc C (v := (a6 + (nI 1))) (lv' := [(6, .int (a6 + (nI 1))), (0, .ref a0), (1, .int a1), (2, .int a2), (3, .int a3), (4, .long a4), (7, .int a7)]) dX0_ahead_248 5 rfl (congrArg (a6 + ·) ic_1) (by decide) rfl ?_
      refine GG.goto C (tgt := 112) dX0_ahead_251 (by decide) ?_
      refine GG.sub [1, 2, 3, 4, 5, 0] rfl ?_
      exact hk112 _ _ _ _ _ _ _ hf
    · have hf := if_f hf c49
      refine GG.iload_n C dX0_ahead_157 1 rfl ?_
      refine GG.iload C dX0_ahead_158 6 rfl ?_
      refine GG.ishr C dX0_ahead_160 ?_
      refine GG.iconst C dX0_ahead_161 ic_1 ?_
      refine GG.iand C dX0_ahead_162 ?_
      refine GG.if_eq C (tgt := 242) dX0_ahead_163 (by decide) (fun c50 => ?_) (fun c50 => ?_)
      · have hf := if_t hf c50
        refine GG.iinc C (v := (a7 + (nI 1))) (lv' := [(7, .int (a7 + (nI 1))), (0, .ref a0), (1, .int a1), (2, .int a2), (3, .int a3), (4, .long a4), (6, .int a6)]) dX0_ahead_242 6 rfl (congrArg (a7 + ·) ic_1) (by decide) rfl ?_
        refine GG.goto C (tgt := 145) dX0_ahead_245 (by decide) ?_
        refine GG.sub [1, 2, 3, 4, 5, 6, 0] rfl ?_
        exact ih _ _ _ _ _ _ _ _ hf
      · have hf := if_f hf c50
        refine GG.aload_n C dX0_ahead_166 0 rfl ?_
        refine GG.iload C dX0_ahead_167 5 rfl ?_
        refine GG.iload C dX0_ahead_169 6 rfl ?_
        obtain ⟨v51, hv51, hf⟩ := obd_some hf
        refine GG.c_X0_305 C rfl (gX0_mayCome hv51) c46 ⟨Nat.le_of_ble_eq_true rfl, Nat.le_of_ble_eq_true rfl⟩ ⟨Nat.le_of_ble_eq_true rfl, Nat.le_of_ble_eq_true rfl⟩ (Nat.le_of_ble_eq_true rfl) dX0_ahead_171 ?_
        refine GG.if_ne C (tgt := 180) dX0_ahead_174 (by decide) (fun c52 => ?_) (fun c52 => ?_)
        · have hf := if_f hf c52
          refine GG.aload_n C dX0_ahead_180 0 rfl ?_
          obtain ⟨r53, hr53, hf⟩ := obd_some hf
          refine GG.gx_X0_66 C rfl c46 hr53 dX0_ahead_181 ?_
          refine GG.iload C dX0_ahead_184 5 rfl ?_
          refine GG.iconst C dX0_ahead_186 ic_1 ?_
          refine GG.iload C dX0_ahead_187 6 rfl ?_
          refine GG.ishl C dX0_ahead_189 ?_
          refine GG.ior C dX0_ahead_190 ?_
          refine GG.topi fun x54 hx54 => ?_
          have hf := ltb_s hx54 hf
          refine GG.dup2 C dX0_ahead_191 rfl rfl ?_
          obtain ⟨v55, hv55, hf⟩ := obd_some hf
          refine GG.lald C hv55 dX0_ahead_192 ?_
          refine GG.aload_n C dX0_ahead_193 0 rfl ?_
          obtain ⟨r56, hr56, hf⟩ := obd_some hf
          refine GG.gx_X0_66 C rfl c46 hr56 dX0_ahead_194 ?_
          refine GG.iload C dX0_ahead_197 5 rfl ?_
          obtain ⟨v57, hv57, hf⟩ := obd_some hf
          refine GG.lald C hv57 dX0_ahead_199 ?_
          refine GG.ladd C dX0_ahead_200 ?_
          obtain ⟨M58, hM58, hf⟩ := obd_some hf
          refine GG.last C hM58 dX0_ahead_201 ?_
          refine GG.iload C dX0_ahead_202 6 rfl ?_
          refine GG.iload_n C dX0_ahead_204 2 rfl ?_
          refine GG.icmp_ne C (tgt := 242) dX0_ahead_205 (by decide) (fun c59 => ?_) (fun c59 => ?_)
          · have hf := if_f hf c59
            refine GG.iinc C (v := (a7 + (nI 1))) (lv' := [(7, .int (a7 + (nI 1))), (0, .ref a0), (1, .int a1), (2, .int a2), (3, .int a3), (4, .long a4), (6, .int a6)]) dX0_ahead_242 6 rfl (congrArg (a7 + ·) ic_1) (by decide) rfl ?_
            refine GG.goto C (tgt := 145) dX0_ahead_245 (by decide) ?_
            refine GG.sub [1, 2, 3, 4, 5, 6, 0] rfl ?_
            exact ih _ _ _ _ _ _ _ _ hf
          · have hf := if_t hf c59
            refine GG.iload C dX0_ahead_208 5 rfl ?_
            refine GG.iload_n C dX0_ahead_210 3 rfl ?_
            refine GG.ishr C dX0_ahead_211 ?_
            refine GG.iconst C dX0_ahead_212 ic_1 ?_
            refine GG.iand C dX0_ahead_213 ?_
            refine GG.if_ne C (tgt := 242) dX0_ahead_214 (by decide) (fun c60 => ?_) (fun c60 => ?_)
            · have hf := if_f hf c60
              refine GG.iinc C (v := (a7 + (nI 1))) (lv' := [(7, .int (a7 + (nI 1))), (0, .ref a0), (1, .int a1), (2, .int a2), (3, .int a3), (4, .long a4), (6, .int a6)]) dX0_ahead_242 6 rfl (congrArg (a7 + ·) ic_1) (by decide) rfl ?_
              refine GG.goto C (tgt := 145) dX0_ahead_245 (by decide) ?_
              refine GG.sub [1, 2, 3, 4, 5, 6, 0] rfl ?_
              exact ih _ _ _ _ _ _ _ _ hf
            · have hf := if_t hf c60
              refine GG.lload C dX0_ahead_217 4 rfl ?_
              refine GG.aload_n C dX0_ahead_219 0 rfl ?_
              obtain ⟨c61, hf⟩ := gd_some hf
              obtain ⟨r62, hr62, hf⟩ := obd_some hf
              refine GG.gx_X0_66 C rfl c61 hr62 dX0_ahead_220 ?_
              refine GG.iload C dX0_ahead_223 5 rfl ?_
              obtain ⟨v63, hv63, hf⟩ := obd_some hf
              refine GG.lald C hv63 dX0_ahead_225 ?_
              refine GG.aload_n C dX0_ahead_226 0 rfl ?_
              obtain ⟨r64, hr64, hf⟩ := obd_some hf
              refine GG.gx_X0_62 C rfl c61 hr64 dX0_ahead_227 ?_
              refine GG.iload C dX0_ahead_230 5 rfl ?_
              refine GG.iconst C dX0_ahead_232 ic_1 ?_
              refine GG.iload C dX0_ahead_233 6 rfl ?_
              refine GG.ishl C dX0_ahead_235 ?_
              refine GG.ior C dX0_ahead_236 ?_
              obtain ⟨v65, hv65, hf⟩ := obd_some hf
              refine GG.lald C hv65 dX0_ahead_237 ?_
              refine GG.lmul C dX0_ahead_238 ?_
              refine GG.ladd C dX0_ahead_239 ?_
              refine GG.topl fun x66 hx66 => ?_
              have hf := ltb_s hx66 hf
              refine GG.lstore C (lv' := [(4, .long x66), (0, .ref a0), (1, .int a1), (2, .int a2), (3, .int a3), (6, .int a6), (7, .int a7)]) dX0_ahead_240 (by decide) rfl ?_
              refine GG.iinc C (v := (a7 + (nI 1))) (lv' := [(7, .int (a7 + (nI 1))), (4, .long x66), (0, .ref a0), (1, .int a1), (2, .int a2), (3, .int a3), (6, .int a6)]) dX0_ahead_242 6 rfl (congrArg (a7 + ·) ic_1) (by decide) rfl ?_
              refine GG.goto C (tgt := 145) dX0_ahead_245 (by decide) ?_
              refine GG.sub [2, 3, 4, 5, 1, 6, 0] rfl ?_
              exact ih _ _ _ _ _ _ _ _ hf
        · have hf := if_t hf c52
          refine GG.goto C (tgt := 242) dX0_ahead_177 (by decide) ?_
          refine GG.iinc C (v := (a7 + (nI 1))) (lv' := [(7, .int (a7 + (nI 1))), (0, .ref a0), (1, .int a1), (2, .int a2), (3, .int a3), (4, .long a4), (6, .int a6)]) dX0_ahead_242 6 rfl (congrArg (a7 + ·) ic_1) (by decide) rfl ?_
          refine GG.goto C (tgt := 145) dX0_ahead_245 (by decide) ?_
          refine GG.sub [1, 2, 3, 4, 5, 6, 0] rfl ?_
          exact ih _ _ _ _ _ _ _ _ hf
theorem gX0_ahead_112 {K : gK} {X : gX} {S : Option MS} (C : gC K X cX0_ahead 8 yX0_ahead (some Jvm.ClassFile.FieldType.boolean) rX0_ahead)  {o : (Int32 × XS)} (E : gE K X (some (.int o.1)) o.2 S rX0_ahead.cells rX0_ahead.slots)   :
    ∀ (n : Nat) (M : XS) (a0 : Nat) (a1 : Int32) (a2 : Int32) (a3 : Int32) (a4 : Int64) (a6 : Int32), fX0_ahead_112  n M a0 a1 a2 a3 a4 a6 = some o → GG K X 8 0 0 M S 112 [(0, .ref a0), (1, .int a1), (2, .int a2), (3, .int a3), (4, .long a4), (6, .int a6)] [] := by
  intro n
  induction n with
  | zero => intro M a0 a1 a2 a3 a4 a6 hf; cases hf
  | succ n ih =>
    intro M a0 a1 a2 a3 a4 a6 hf
    rw [fX0_ahead_112] at hf
    refine GG.iload C dX0_ahead_112 5 rfl ?_
    refine GG.iload_n C dX0_ahead_114 1 rfl ?_
    refine GG.icmp_gt C (tgt := 254) dX0_ahead_115 (by decide) (fun c35 => ?_) (fun c35 => ?_)
    · have hf := if_t hf c35
      refine GG.aload_n C dX0_ahead_254 0 rfl ?_
      refine GG.lload C dX0_ahead_255 4 rfl ?_
      refine GG.aload_n C dX0_ahead_257 0 rfl ?_
      obtain ⟨c36, hf⟩ := gd_some hf
      obtain ⟨r37, hr37, hf⟩ := obd_some hf
      refine GG.gx_X0_62 C rfl c36 hr37 dX0_ahead_258 ?_
      refine GG.iconst C dX0_ahead_261 ic_0 ?_
      obtain ⟨v38, hv38, hf⟩ := obd_some hf
      refine GG.lald C hv38 dX0_ahead_262 ?_
      obtain ⟨p39, hp39, hf⟩ := obd_some hf
      refine GG.c_X0_311 C rfl (gX0_tell hp39) c36 ⟨Nat.le_of_ble_eq_true rfl, Nat.le_of_ble_eq_true rfl⟩ ⟨Nat.le_of_ble_eq_true rfl, Nat.le_of_ble_eq_true rfl⟩ (Nat.le_of_ble_eq_true rfl) dX0_ahead_263 ?_
      obtain ⟨c40, hf⟩ := gd_some hf
      have hf := Option.some.inj hf
      subst hf
      exact GG.zret C c40 E dX0_ahead_266
    · have hf := if_f hf c35
      refine GG.iload C dX0_ahead_118 5 rfl ?_
      refine GG.iload_n C dX0_ahead_120 1 rfl ?_
      refine GG.iconst C dX0_ahead_121 ic_m1 ?_
      refine GG.ixor C dX0_ahead_122 ?_
      refine GG.iand C dX0_ahead_123 ?_
      refine GG.if_ne C (tgt := 248) dX0_ahead_124 (by decide) (fun c41 => ?_) (fun c41 => ?_)
      · have hf := if_f hf c41
        refine GG.iinc C (v := (a6 + (nI 1))) (lv' := [(6, .int (a6 + (nI 1))), (0, .ref a0), (1, .int a1), (2, .int a2), (3, .int a3), (4, .long a4)]) dX0_ahead_248 5 rfl (congrArg (a6 + ·) ic_1) (by decide) rfl ?_
        refine GG.goto C (tgt := 112) dX0_ahead_251 (by decide) ?_
        refine GG.sub [1, 2, 3, 4, 5, 0] rfl ?_
        exact ih _ _ _ _ _ _ _ hf
      · have hf := if_t hf c41
        refine GG.aload_n C dX0_ahead_127 0 rfl ?_
        obtain ⟨c42, hf⟩ := gd_some hf
        obtain ⟨r43, hr43, hf⟩ := obd_some hf
        refine GG.gx_X0_66 C rfl c42 hr43 dX0_ahead_128 ?_
        refine GG.iload C dX0_ahead_131 5 rfl ?_
        obtain ⟨v44, hv44, hf⟩ := obd_some hf
        refine GG.lald C hv44 dX0_ahead_133 ?_
        refine GG.lconst C dX0_ahead_134 lc_0 ?_
        refine GG.lcmp C dX0_ahead_135 ?_
        refine GG.if_ne C (tgt := 142) dX0_ahead_136 (by decide) (fun c45 => ?_) (fun c45 => ?_)
        · have hf := if_f hf c45
          refine GG.iconst C dX0_ahead_142 ic_0 ?_
          refine GG.istore C (lv' := [(7, .int (nI 0)), (0, .ref a0), (1, .int a1), (2, .int a2), (3, .int a3), (4, .long a4), (6, .int a6)]) dX0_ahead_143 (by decide) rfl ?_
          refine GG.sub [1, 2, 3, 4, 5, 6, 0] rfl ?_
          exact gX0_ahead_145 C E (hk112 := ih) FU _ _ _ _ _ _ _ _ hf
        · have hf := if_t hf c45
          refine GG.goto C (tgt := 248) dX0_ahead_139 (by decide) ?_
          refine GG.iinc C (v := (a6 + (nI 1))) (lv' := [(6, .int (a6 + (nI 1))), (0, .ref a0), (1, .int a1), (2, .int a2), (3, .int a3), (4, .long a4)]) dX0_ahead_248 5 rfl (congrArg (a6 + ·) ic_1) (by decide) rfl ?_
          refine GG.goto C (tgt := 112) dX0_ahead_251 (by decide) ?_
          refine GG.sub [1, 2, 3, 4, 5, 0] rfl ?_
          exact ih _ _ _ _ _ _ _ hf
theorem gX0_ahead_75 {K : gK} {X : gX} {S : Option MS} (C : gC K X cX0_ahead 8 yX0_ahead (some Jvm.ClassFile.FieldType.boolean) rX0_ahead)  {o : (Int32 × XS)} (E : gE K X (some (.int o.1)) o.2 S rX0_ahead.cells rX0_ahead.slots)   :
    ∀ (n : Nat) (M : XS) (a0 : Nat) (a1 : Int32) (a2 : Int32) (a3 : Int32) (a4 : Int32), fX0_ahead_75  n M a0 a1 a2 a3 a4 = some o → GG K X 8 0 0 M S 75 [(0, .ref a0), (1, .int a1), (2, .int a2), (3, .int a3), (4, .int a4)] [] := by
  intro n
  induction n with
  | zero => intro M a0 a1 a2 a3 a4 hf; cases hf
  | succ n ih =>
    intro M a0 a1 a2 a3 a4 hf
    rw [fX0_ahead_75] at hf
    refine GG.iload C dX0_ahead_75 4 rfl ?_
    refine GG.if_le C (tgt := 99) dX0_ahead_77 (by decide) (fun c27 => ?_) (fun c27 => ?_)
    · have hf := if_t hf c27
      refine GG.aload_n C dX0_ahead_99 0 rfl ?_
      obtain ⟨c28, hf⟩ := gd_some hf
      obtain ⟨r29, hr29, hf⟩ := obd_some hf
      refine GG.gx_X0_66 C rfl c28 hr29 dX0_ahead_100 ?_
      refine GG.iconst C dX0_ahead_103 ic_0 ?_
      refine GG.lconst C dX0_ahead_104 lc_1 ?_
      obtain ⟨M30, hM30, hf⟩ := obd_some hf
      refine GG.last C hM30 dX0_ahead_105 ?_
      refine GG.lconst C dX0_ahead_106 lc_0 ?_
      refine GG.lstore C (lv' := [(4, .long (lN 0)), (0, .ref a0), (1, .int a1), (2, .int a2), (3, .int a3)]) dX0_ahead_107 (by decide) rfl ?_
      refine GG.iconst C dX0_ahead_109 ic_0 ?_
      refine GG.istore C (lv' := [(6, .int (nI 0)), (4, .long (lN 0)), (0, .ref a0), (1, .int a1), (2, .int a2), (3, .int a3)]) dX0_ahead_110 (by decide) rfl ?_
      refine GG.sub [2, 3, 4, 5, 1, 0] rfl ?_
      exact gX0_ahead_112 C E  FU _ _ _ _ _ _ _ hf
    · have hf := if_f hf c27
      refine GG.aload_n C dX0_ahead_80 0 rfl ?_
      obtain ⟨c31, hf⟩ := gd_some hf
      obtain ⟨r32, hr32, hf⟩ := obd_some hf
      refine GG.gx_X0_66 C rfl c31 hr32 dX0_ahead_81 ?_
      refine GG.iload C dX0_ahead_84 4 rfl ?_
      refine GG.lconst C dX0_ahead_86 lc_0 ?_
      obtain ⟨M33, hM33, hf⟩ := obd_some hf
      refine GG.last C hM33 dX0_ahead_87 ?_
      refine GG.iload C dX0_ahead_88 4 rfl ?_
      refine GG.iconst C dX0_ahead_90 ic_1 ?_
      refine GG.isub C dX0_ahead_91 ?_
      refine GG.iload_n C dX0_ahead_92 1 rfl ?_
      refine GG.iand C dX0_ahead_93 ?_
      refine GG.topi fun x34 hx34 => ?_
      have hf := ltb_s hx34 hf
      refine GG.istore C (lv' := [(4, .int x34), (0, .ref a0), (1, .int a1), (2, .int a2), (3, .int a3)]) dX0_ahead_94 (by decide) rfl ?_
      refine GG.goto C (tgt := 75) dX0_ahead_96 (by decide) ?_
      refine GG.sub [1, 2, 3, 4, 0] rfl ?_
      exact ih _ _ _ _ _ _ hf
theorem gX0_ahead {K : gK} {S : Option MS}  {M : XS} {a0 : Nat} {a1 : Int32} {a2 : Int32} {a3 : Int32} {o : (Int32 × XS)} (hf : fX0_ahead M a0 a1 a2 a3 = some o) : gMet K yX0_ahead cX0_ahead 8 (some Jvm.ClassFile.FieldType.boolean) rX0_ahead [(.ref a0), (.int a1), (.int a2), (.int a3)] M S (some (.int o.1)) o.2 S := by
  refine gMet.of pn_X0 (Nat.le_of_ble_eq_true rfl) fun X C E => ?_
  unfold fX0_ahead at hf
  show GG K X 8 0 0 M S 0 [(0, .ref a0), (1, .int a1), (2, .int a2), (3, .int a3)] []
  refine GG.aload_n C dX0_ahead_0 0 rfl ?_
  refine GG.iload_n C dX0_ahead_1 1 rfl ?_
  obtain ⟨c1, hf⟩ := gd_some hf
  obtain ⟨v2, hv2, hf⟩ := obd_some hf
  refine GG.c_X0_251 C rfl (gX0_isSet hv2) c1 ⟨Nat.le_of_ble_eq_true rfl, Nat.le_of_ble_eq_true rfl⟩ ⟨Nat.le_of_ble_eq_true rfl, Nat.le_of_ble_eq_true rfl⟩ (Nat.le_of_ble_eq_true rfl) dX0_ahead_2 ?_
  refine GG.if_eq C (tgt := 43) dX0_ahead_5 (by decide) (fun c3 => ?_) (fun c3 => ?_)
  · have hf := if_t hf c3
    refine GG.aload_n C dX0_ahead_43 0 rfl ?_
    refine GG.iconst C dX0_ahead_44 ic_2 ?_
    obtain ⟨p4, hp4, hf⟩ := obd_some hf
    refine GG.c_X0_103 C rfl (gX0_is hp4) c1 ⟨Nat.le_of_ble_eq_true rfl, Nat.le_of_ble_eq_true rfl⟩ ⟨Nat.le_of_ble_eq_true rfl, Nat.le_of_ble_eq_true rfl⟩ (Nat.le_of_ble_eq_true rfl) dX0_ahead_45 ?_
    obtain ⟨c5, hf⟩ := gd_some hf
    have hf := Option.some.inj hf
    subst hf
    exact GG.zret C c5 E dX0_ahead_48
  · have hf := if_f hf c3
    refine GG.aload_n C dX0_ahead_8 0 rfl ?_
    refine GG.iload_n C dX0_ahead_9 2 rfl ?_
    refine GG.i2l C dX0_ahead_10 ?_
    obtain ⟨v6, hv6, hf⟩ := obd_some hf
    refine GG.c_X0_224 C rfl (gX0_isChange hv6) c1 ⟨Nat.le_of_ble_eq_true rfl, Nat.le_of_ble_eq_true rfl⟩ ⟨Nat.le_of_ble_eq_true rfl, Nat.le_of_ble_eq_true rfl⟩ (Nat.le_of_ble_eq_true rfl) dX0_ahead_11 ?_
    refine GG.if_eq C (tgt := 43) dX0_ahead_14 (by decide) (fun c7 => ?_) (fun c7 => ?_)
    · have hf := if_t hf c7
      refine GG.aload_n C dX0_ahead_43 0 rfl ?_
      refine GG.iconst C dX0_ahead_44 ic_2 ?_
      obtain ⟨p8, hp8, hf⟩ := obd_some hf
      refine GG.c_X0_103 C rfl (gX0_is hp8) c1 ⟨Nat.le_of_ble_eq_true rfl, Nat.le_of_ble_eq_true rfl⟩ ⟨Nat.le_of_ble_eq_true rfl, Nat.le_of_ble_eq_true rfl⟩ (Nat.le_of_ble_eq_true rfl) dX0_ahead_45 ?_
      obtain ⟨c9, hf⟩ := gd_some hf
      have hf := Option.some.inj hf
      subst hf
      exact GG.zret C c9 E dX0_ahead_48
    · have hf := if_f hf c7
      refine GG.aload_n C dX0_ahead_17 0 rfl ?_
      refine GG.iload_n C dX0_ahead_18 3 rfl ?_
      refine GG.i2l C dX0_ahead_19 ?_
      obtain ⟨v10, hv10, hf⟩ := obd_some hf
      refine GG.c_X0_224 C rfl (gX0_isChange hv10) c1 ⟨Nat.le_of_ble_eq_true rfl, Nat.le_of_ble_eq_true rfl⟩ ⟨Nat.le_of_ble_eq_true rfl, Nat.le_of_ble_eq_true rfl⟩ (Nat.le_of_ble_eq_true rfl) dX0_ahead_20 ?_
      refine GG.if_eq C (tgt := 43) dX0_ahead_23 (by decide) (fun c11 => ?_) (fun c11 => ?_)
      · have hf := if_t hf c11
        refine GG.aload_n C dX0_ahead_43 0 rfl ?_
        refine GG.iconst C dX0_ahead_44 ic_2 ?_
        obtain ⟨p12, hp12, hf⟩ := obd_some hf
        refine GG.c_X0_103 C rfl (gX0_is hp12) c1 ⟨Nat.le_of_ble_eq_true rfl, Nat.le_of_ble_eq_true rfl⟩ ⟨Nat.le_of_ble_eq_true rfl, Nat.le_of_ble_eq_true rfl⟩ (Nat.le_of_ble_eq_true rfl) dX0_ahead_45 ?_
        obtain ⟨c13, hf⟩ := gd_some hf
        have hf := Option.some.inj hf
        subst hf
        exact GG.zret C c13 E dX0_ahead_48
      · have hf := if_f hf c11
        refine GG.iload_n C dX0_ahead_26 2 rfl ?_
        refine GG.iload_n C dX0_ahead_27 3 rfl ?_
        refine GG.icmp_eq C (tgt := 43) dX0_ahead_28 (by decide) (fun c14 => ?_) (fun c14 => ?_)
        · have hf := if_t hf c14
          refine GG.aload_n C dX0_ahead_43 0 rfl ?_
          refine GG.iconst C dX0_ahead_44 ic_2 ?_
          obtain ⟨p15, hp15, hf⟩ := obd_some hf
          refine GG.c_X0_103 C rfl (gX0_is hp15) c1 ⟨Nat.le_of_ble_eq_true rfl, Nat.le_of_ble_eq_true rfl⟩ ⟨Nat.le_of_ble_eq_true rfl, Nat.le_of_ble_eq_true rfl⟩ (Nat.le_of_ble_eq_true rfl) dX0_ahead_45 ?_
          obtain ⟨c16, hf⟩ := gd_some hf
          have hf := Option.some.inj hf
          subst hf
          exact GG.zret C c16 E dX0_ahead_48
        · have hf := if_f hf c14
          refine GG.iload_n C dX0_ahead_31 1 rfl ?_
          refine GG.iload_n C dX0_ahead_32 2 rfl ?_
          refine GG.ishr C dX0_ahead_33 ?_
          refine GG.iload_n C dX0_ahead_34 1 rfl ?_
          refine GG.iload_n C dX0_ahead_35 3 rfl ?_
          refine GG.ishr C dX0_ahead_36 ?_
          refine GG.iand C dX0_ahead_37 ?_
          refine GG.iconst C dX0_ahead_38 ic_1 ?_
          refine GG.iand C dX0_ahead_39 ?_
          refine GG.if_ne C (tgt := 49) dX0_ahead_40 (by decide) (fun c17 => ?_) (fun c17 => ?_)
          · have hf := if_f hf c17
            refine GG.aload_n C dX0_ahead_49 0 rfl ?_
            obtain ⟨r18, hr18, hf⟩ := obd_some hf
            refine GG.gx_X0_37 C rfl c1 hr18 dX0_ahead_50 ?_
            refine GG.iload_n C dX0_ahead_53 1 rfl ?_
            obtain ⟨c19, hf⟩ := gd_some hf
            obtain ⟨v20, hv20, hf⟩ := obd_some hf
            refine GG.c_X0_254 C rfl (gX4_holds hv20) c19 ⟨Nat.le_of_ble_eq_true rfl, Nat.le_of_ble_eq_true rfl⟩ ⟨Nat.le_of_ble_eq_true rfl, Nat.le_of_ble_eq_true rfl⟩ (Nat.le_of_ble_eq_true rfl) dX0_ahead_54 ?_
            refine GG.if_ne C (tgt := 67) dX0_ahead_57 (by decide) (fun c21 => ?_) (fun c21 => ?_)
            · have hf := if_f hf c21
              refine GG.aload_n C dX0_ahead_67 0 rfl ?_
              refine GG.iload_n C dX0_ahead_68 1 rfl ?_
              obtain ⟨p22, hp22, hf⟩ := obd_some hf
              refine GG.c_X0_308 C rfl (gX0_counts hp22) c1 ⟨Nat.le_of_ble_eq_true rfl, Nat.le_of_ble_eq_true rfl⟩ ⟨Nat.le_of_ble_eq_true rfl, Nat.le_of_ble_eq_true rfl⟩ (Nat.le_of_ble_eq_true rfl) dX0_ahead_69 ?_
              refine GG.iload_n C dX0_ahead_72 1 rfl ?_
              refine GG.istore C (lv' := [(4, .int a1), (0, .ref a0), (1, .int a1), (2, .int a2), (3, .int a3)]) dX0_ahead_73 (by decide) rfl ?_
              refine GG.sub [1, 2, 3, 4, 0] rfl ?_
              exact gX0_ahead_75 C E  FU _ _ _ _ _ _ hf
            · have hf := if_t hf c21
              refine GG.aload_n C dX0_ahead_60 0 rfl ?_
              refine GG.bipush C dX0_ahead_61 bp_9 ?_
              obtain ⟨p23, hp23, hf⟩ := obd_some hf
              refine GG.c_X0_103 C rfl (gX0_is hp23) c1 ⟨Nat.le_of_ble_eq_true rfl, Nat.le_of_ble_eq_true rfl⟩ ⟨Nat.le_of_ble_eq_true rfl, Nat.le_of_ble_eq_true rfl⟩ (Nat.le_of_ble_eq_true rfl) dX0_ahead_63 ?_
              obtain ⟨c24, hf⟩ := gd_some hf
              have hf := Option.some.inj hf
              subst hf
              exact GG.zret C c24 E dX0_ahead_66
          · have hf := if_t hf c17
            refine GG.aload_n C dX0_ahead_43 0 rfl ?_
            refine GG.iconst C dX0_ahead_44 ic_2 ?_
            obtain ⟨p25, hp25, hf⟩ := obd_some hf
            refine GG.c_X0_103 C rfl (gX0_is hp25) c1 ⟨Nat.le_of_ble_eq_true rfl, Nat.le_of_ble_eq_true rfl⟩ ⟨Nat.le_of_ble_eq_true rfl, Nat.le_of_ble_eq_true rfl⟩ (Nat.le_of_ble_eq_true rfl) dX0_ahead_45 ?_
            obtain ⟨c26, hf⟩ := gd_some hf
            have hf := Option.some.inj hf
            subst hf
            exact GG.zret C c26 E dX0_ahead_48
theorem gX0_ordered_105 {K : gK} {X : gX} {S : Option MS} (C : gC K X cX0_ordered 9 yX0_ordered (some Jvm.ClassFile.FieldType.int) rX0_ordered)  {o : (Int32 × XS)} (E : gE K X (some (.int o.1)) o.2 S rX0_ordered.cells rX0_ordered.slots) {k58 : XS → Nat → Int32 → Int64 → Int32 → Option (Int32 × XS)} {k67 : XS → Nat → Int32 → Int64 → Int32 → Int32 → Option (Int32 × XS)} (hk58 : ∀ (M : XS) (a0 : Nat) (a1 : Int32) (a5 : Int64) (a7 : Int32), k58 M a0 a1 a5 a7 = some o → GG K X 9 0 0 M S 58 [(0, .ref a0), (1, .int a1), (5, .long a5), (7, .int a7)] []) (hk67 : ∀ (M : XS) (a0 : Nat) (a1 : Int32) (a5 : Int64) (a7 : Int32) (a8 : Int32), k67 M a0 a1 a5 a7 a8 = some o → GG K X 9 0 0 M S 67 [(0, .ref a0), (1, .int a1), (5, .long a5), (7, .int a7), (8, .int a8)] []) :
    ∀ (M : XS) (a0 : Nat) (a1 : Int32) (a5 : Int64) (a7 : Int32) (a8 : Int32), fX0_ordered_105 k58 k67 M a0 a1 a5 a7 a8 = some o → GG K X 9 0 0 M S 105 [(0, .ref a0), (1, .int a1), (5, .long a5), (7, .int a7), (8, .int a8)] [] := by
  intro M a0 a1 a5 a7 a8 hf
  unfold fX0_ordered_105 at hf
  refine GG.iload_n C dX0_ordered_105 1 rfl ?_
  refine GG.iload C dX0_ordered_106 4 rfl ?_
  refine GG.ishr C dX0_ordered_108 ?_
  refine GG.iconst C dX0_ordered_109 ic_1 ?_
  refine GG.iand C dX0_ordered_110 ?_
  refine GG.iconst C dX0_ordered_111 ic_1 ?_
  refine GG.icmp_ne C (tgt := 143) dX0_ordered_112 (by decide) (fun c30 => ?_) (fun c30 => ?_)
  · have hf := if_f hf c30
    refine GG.iinc C (v := (a8 + (nI 1))) (lv' := [(8, .int (a8 + (nI 1))), (0, .ref a0), (1, .int a1), (5, .long a5), (7, .int a7)]) dX0_ordered_143 4 rfl (congrArg (a8 + ·) ic_1) (by decide) rfl ?_
    refine GG.goto C (tgt := 67) dX0_ordered_146 (by decide) ?_
    refine GG.sub [1, 2, 3, 4, 0] rfl ?_
    exact hk67 _ _ _ _ _ _ hf
  · have hf := if_t hf c30
    refine GG.aload_n C dX0_ordered_115 0 rfl ?_
    refine GG.iload C dX0_ordered_116 3 rfl ?_
    refine GG.iload C dX0_ordered_118 4 rfl ?_
    obtain ⟨c31, hf⟩ := gd_some hf
    obtain ⟨v32, hv32, hf⟩ := obd_some hf
    refine GG.c_X0_305 C rfl (gX0_mayCome hv32) c31 ⟨Nat.le_of_ble_eq_true rfl, Nat.le_of_ble_eq_true rfl⟩ ⟨Nat.le_of_ble_eq_true rfl, Nat.le_of_ble_eq_true rfl⟩ (Nat.le_of_ble_eq_true rfl) dX0_ordered_120 ?_
    refine GG.if_eq C (tgt := 143) dX0_ordered_123 (by decide) (fun c33 => ?_) (fun c33 => ?_)
    · have hf := if_t hf c33
      refine GG.iinc C (v := (a8 + (nI 1))) (lv' := [(8, .int (a8 + (nI 1))), (0, .ref a0), (1, .int a1), (5, .long a5), (7, .int a7)]) dX0_ordered_143 4 rfl (congrArg (a8 + ·) ic_1) (by decide) rfl ?_
      refine GG.goto C (tgt := 67) dX0_ordered_146 (by decide) ?_
      refine GG.sub [1, 2, 3, 4, 0] rfl ?_
      exact hk67 _ _ _ _ _ _ hf
    · have hf := if_f hf c33
      refine GG.lload C dX0_ordered_126 2 rfl ?_
      refine GG.aload_n C dX0_ordered_128 0 rfl ?_
      obtain ⟨r34, hr34, hf⟩ := obd_some hf
      refine GG.gx_X0_62 C rfl c31 hr34 dX0_ordered_129 ?_
      refine GG.iload C dX0_ordered_132 3 rfl ?_
      refine GG.iconst C dX0_ordered_134 ic_1 ?_
      refine GG.iload C dX0_ordered_135 4 rfl ?_
      refine GG.ishl C dX0_ordered_137 ?_
      refine GG.ior C dX0_ordered_138 ?_
      obtain ⟨v35, hv35, hf⟩ := obd_some hf
      refine GG.lald C hv35 dX0_ordered_139 ?_
      refine GG.lsub C dX0_ordered_140 ?_
      refine GG.topl fun x36 hx36 => ?_
      have hf := ltb_s hx36 hf
      refine GG.lstore C (lv' := [(5, .long x36), (0, .ref a0), (1, .int a1), (7, .int a7), (8, .int a8)]) dX0_ordered_141 (by decide) rfl ?_
      refine GG.iinc C (v := (a8 + (nI 1))) (lv' := [(8, .int (a8 + (nI 1))), (5, .long x36), (0, .ref a0), (1, .int a1), (7, .int a7)]) dX0_ordered_143 4 rfl (congrArg (a8 + ·) ic_1) (by decide) rfl ?_
      refine GG.goto C (tgt := 67) dX0_ordered_146 (by decide) ?_
      refine GG.sub [2, 3, 1, 4, 0] rfl ?_
      exact hk67 _ _ _ _ _ _ hf
theorem gX0_ordered_67 {K : gK} {X : gX} {S : Option MS} (C : gC K X cX0_ordered 9 yX0_ordered (some Jvm.ClassFile.FieldType.int) rX0_ordered)  {o : (Int32 × XS)} (E : gE K X (some (.int o.1)) o.2 S rX0_ordered.cells rX0_ordered.slots) {k58 : XS → Nat → Int32 → Int64 → Int32 → Option (Int32 × XS)} (hk58 : ∀ (M : XS) (a0 : Nat) (a1 : Int32) (a5 : Int64) (a7 : Int32), k58 M a0 a1 a5 a7 = some o → GG K X 9 0 0 M S 58 [(0, .ref a0), (1, .int a1), (5, .long a5), (7, .int a7)] []) :
    ∀ (n : Nat) (M : XS) (a0 : Nat) (a1 : Int32) (a5 : Int64) (a7 : Int32) (a8 : Int32), fX0_ordered_67 k58 n M a0 a1 a5 a7 a8 = some o → GG K X 9 0 0 M S 67 [(0, .ref a0), (1, .int a1), (5, .long a5), (7, .int a7), (8, .int a8)] [] := by
  intro n
  induction n with
  | zero => intro M a0 a1 a5 a7 a8 hf; cases hf
  | succ n ih =>
    intro M a0 a1 a5 a7 a8 hf
    rw [fX0_ordered_67] at hf
    refine GG.iload_n C dX0_ordered_67 1 rfl ?_
    refine GG.iload C dX0_ordered_68 4 rfl ?_
    refine GG.ishr C dX0_ordered_70 ?_
    refine GG.iconst C dX0_ordered_71 ic_1 ?_
    refine GG.iand C dX0_ordered_72 ?_
    refine GG.if_eq C (tgt := 105) dX0_ordered_73 (by decide) (fun c18 => ?_) (fun c18 => ?_)
    · have hf := if_t hf c18
      refine GG.sub [0, 1, 2, 3, 4] rfl ?_
      exact gX0_ordered_105 C E (hk58 := hk58) (hk67 := ih) _ _ _ _ _ _ hf
    · have hf := if_f hf c18
      refine GG.aload_n C dX0_ordered_76 0 rfl ?_
      refine GG.iload C dX0_ordered_77 3 rfl ?_
      refine GG.iload C dX0_ordered_79 4 rfl ?_
      obtain ⟨c19, hf⟩ := gd_some hf
      obtain ⟨v20, hv20, hf⟩ := obd_some hf
      refine GG.c_X0_305 C rfl (gX0_mayCome hv20) c19 ⟨Nat.le_of_ble_eq_true rfl, Nat.le_of_ble_eq_true rfl⟩ ⟨Nat.le_of_ble_eq_true rfl, Nat.le_of_ble_eq_true rfl⟩ (Nat.le_of_ble_eq_true rfl) dX0_ordered_81 ?_
      refine GG.if_eq C (tgt := 105) dX0_ordered_84 (by decide) (fun c21 => ?_) (fun c21 => ?_)
      · have hf := if_t hf c21
        refine GG.sub [0, 1, 2, 3, 4] rfl ?_
        exact gX0_ordered_105 C E (hk58 := hk58) (hk67 := ih) _ _ _ _ _ _ hf
      · have hf := if_f hf c21
        refine GG.lload C dX0_ordered_87 2 rfl ?_
        refine GG.aload_n C dX0_ordered_89 0 rfl ?_
        obtain ⟨r22, hr22, hf⟩ := obd_some hf
        refine GG.gx_X0_62 C rfl c19 hr22 dX0_ordered_90 ?_
        refine GG.iload C dX0_ordered_93 3 rfl ?_
        refine GG.iconst C dX0_ordered_95 ic_1 ?_
        refine GG.iload C dX0_ordered_96 4 rfl ?_
        refine GG.ishl C dX0_ordered_98 ?_
        refine GG.ior C dX0_ordered_99 ?_
        obtain ⟨v23, hv23, hf⟩ := obd_some hf
        refine GG.lald C hv23 dX0_ordered_100 ?_
        refine GG.lcmp C dX0_ordered_101 ?_
        refine GG.if_lt C (tgt := 149) dX0_ordered_102 (by decide) (fun c24 => ?_) (fun c24 => ?_)
        · have hf := if_t hf c24
          refine GG.aload_n C dX0_ordered_149 0 rfl ?_
          obtain ⟨r25, hr25, hf⟩ := obd_some hf
          refine GG.gx_X0_31 C rfl c19 hr25 dX0_ordered_150 ?_
          refine GG.aload_n C dX0_ordered_153 0 rfl ?_
          refine GG.gx_X0_187 C rfl c19 dX0_ordered_154 ?_
          refine GG.iload C dX0_ordered_157 4 rfl ?_
          obtain ⟨M26, hM26, hf⟩ := obd_some hf
          refine GG.iast C hM26 dX0_ordered_159 ?_
          refine GG.aload_n C dX0_ordered_160 0 rfl ?_
          refine GG.dup C dX0_ordered_161 rfl ?_
          obtain ⟨c27, hf⟩ := gd_some hf
          refine GG.gx_X0_187 C rfl c27 dX0_ordered_162 ?_
          refine GG.iconst C dX0_ordered_165 ic_1 ?_
          refine GG.iadd C dX0_ordered_166 ?_
          refine GG.px_X0_187 C rfl c27 dX0_ordered_167 ?_
          refine GG.topM fun M28 hM28 => ?_
          have hf := ltb_s hM28 hf
          refine GG.iload C dX0_ordered_170 3 rfl ?_
          refine GG.iconst C dX0_ordered_172 ic_1 ?_
          refine GG.iload C dX0_ordered_173 4 rfl ?_
          refine GG.ishl C dX0_ordered_175 ?_
          refine GG.ior C dX0_ordered_176 ?_
          refine GG.topi fun x29 hx29 => ?_
          have hf := ltb_s hx29 hf
          refine GG.istore C (lv' := [(7, .int x29), (0, .ref a0), (1, .int a1), (5, .long a5), (8, .int a8)]) dX0_ordered_177 (by decide) rfl ?_
          refine GG.goto C (tgt := 58) dX0_ordered_179 (by decide) ?_
          refine GG.sub [1, 2, 3, 0] rfl ?_
          exact hk58 _ _ _ _ _ hf
        · have hf := if_f hf c24
          refine GG.sub [0, 1, 2, 3, 4] rfl ?_
          exact gX0_ordered_105 C E (hk58 := hk58) (hk67 := ih) _ _ _ _ _ _ hf
theorem gX0_ordered_58 {K : gK} {X : gX} {S : Option MS} (C : gC K X cX0_ordered 9 yX0_ordered (some Jvm.ClassFile.FieldType.int) rX0_ordered)  {o : (Int32 × XS)} (E : gE K X (some (.int o.1)) o.2 S rX0_ordered.cells rX0_ordered.slots)   :
    ∀ (n : Nat) (M : XS) (a0 : Nat) (a1 : Int32) (a5 : Int64) (a7 : Int32), fX0_ordered_58  n M a0 a1 a5 a7 = some o → GG K X 9 0 0 M S 58 [(0, .ref a0), (1, .int a1), (5, .long a5), (7, .int a7)] [] := by
  intro n
  induction n with
  | zero => intro M a0 a1 a5 a7 hf; cases hf
  | succ n ih =>
    intro M a0 a1 a5 a7 hf
    rw [fX0_ordered_58] at hf
    refine GG.iload C dX0_ordered_58 3 rfl ?_
    refine GG.iload_n C dX0_ordered_60 1 rfl ?_
    refine GG.icmp_eq C (tgt := 182) dX0_ordered_61 (by decide) (fun c15 => ?_) (fun c15 => ?_)
    · have hf := if_t hf c15
      refine GG.aload_n C dX0_ordered_182 0 rfl ?_
      refine GG.aload_n C dX0_ordered_183 0 rfl ?_
      obtain ⟨c16, hf⟩ := gd_some hf
      refine GG.gx_X0_187 C rfl c16 dX0_ordered_184 ?_
      obtain ⟨p17, hp17, hf⟩ := obd_some hf
      refine GG.c_X0_197 C rfl (gX0_gives hp17) c16 ⟨Nat.le_of_ble_eq_true rfl, Nat.le_of_ble_eq_true rfl⟩ ⟨Nat.le_of_ble_eq_true rfl, Nat.le_of_ble_eq_true rfl⟩ (Nat.le_of_ble_eq_true rfl) dX0_ordered_187 ?_
      have hf := Option.some.inj hf
      subst hf
      exact GG.iret C E dX0_ordered_190
    · have hf := if_f hf c15
      refine GG.iconst C dX0_ordered_64 ic_0 ?_
      refine GG.istore C (lv' := [(8, .int (nI 0)), (0, .ref a0), (1, .int a1), (5, .long a5), (7, .int a7)]) dX0_ordered_65 (by decide) rfl ?_
      refine GG.sub [1, 2, 3, 4, 0] rfl ?_
      exact gX0_ordered_67 C E (hk58 := ih) FU _ _ _ _ _ _ hf
theorem gX0_ordered {K : gK} {S : Option MS}  {M : XS} {a0 : Nat} {a1 : Int32} {a2 : Int64} {o : (Int32 × XS)} (hf : fX0_ordered M a0 a1 a2 = some o) : gMet K yX0_ordered cX0_ordered 9 (some Jvm.ClassFile.FieldType.int) rX0_ordered [(.ref a0), (.int a1), (.long a2)] M S (some (.int o.1)) o.2 S := by
  refine gMet.of pn_X0 (Nat.le_of_ble_eq_true rfl) fun X C E => ?_
  unfold fX0_ordered at hf
  show GG K X 9 0 0 M S 0 [(0, .ref a0), (1, .int a1), (2, .long a2)] []
  refine GG.aload_n C dX0_ordered_0 0 rfl ?_
  refine GG.iload_n C dX0_ordered_1 1 rfl ?_
  obtain ⟨c1, hf⟩ := gd_some hf
  obtain ⟨v2, hv2, hf⟩ := obd_some hf
  refine GG.c_X0_270 C rfl (gX0_wrongSet hv2) c1 ⟨Nat.le_of_ble_eq_true rfl, Nat.le_of_ble_eq_true rfl⟩ ⟨Nat.le_of_ble_eq_true rfl, Nat.le_of_ble_eq_true rfl⟩ (Nat.le_of_ble_eq_true rfl) dX0_ordered_2 ?_
  refine GG.istore C (lv' := [(4, .int v2), (0, .ref a0), (1, .int a1), (2, .long a2)]) dX0_ordered_5 (by decide) rfl ?_
  refine GG.iload C dX0_ordered_7 0 rfl ?_
  refine GG.if_le C (tgt := 19) dX0_ordered_9 (by decide) (fun c3 => ?_) (fun c3 => ?_)
  · have hf := if_t hf c3
    refine GG.aload_n C dX0_ordered_19 1 rfl ?_
    refine GG.iload_n C dX0_ordered_20 2 rfl ?_
    obtain ⟨p4, hp4, hf⟩ := obd_some hf
    refine GG.c_X0_308 C rfl (gX0_counts hp4) c1 ⟨Nat.le_of_ble_eq_true rfl, Nat.le_of_ble_eq_true rfl⟩ ⟨Nat.le_of_ble_eq_true rfl, Nat.le_of_ble_eq_true rfl⟩ (Nat.le_of_ble_eq_true rfl) dX0_ordered_21 ?_
    refine GG.lload_n C dX0_ordered_24 3 rfl ?_
    refine GG.lconst C dX0_ordered_25 lc_0 ?_
    refine GG.lcmp C dX0_ordered_26 ?_
    refine GG.if_lt C (tgt := 41) dX0_ordered_27 (by decide) (fun c5 => ?_) (fun c5 => ?_)
    · have hf := if_t hf c5
      refine GG.aload_n C dX0_ordered_41 1 rfl ?_
      refine GG.iconst C dX0_ordered_42 ic_5 ?_
      obtain ⟨c6, hf⟩ := gd_some hf
      obtain ⟨p7, hp7, hf⟩ := obd_some hf
      refine GG.c_X0_124 C rfl (gX0_none hp7) c6 ⟨Nat.le_of_ble_eq_true rfl, Nat.le_of_ble_eq_true rfl⟩ ⟨Nat.le_of_ble_eq_true rfl, Nat.le_of_ble_eq_true rfl⟩ (Nat.le_of_ble_eq_true rfl) dX0_ordered_43 ?_
      have hf := Option.some.inj hf
      subst hf
      exact GG.iret C E dX0_ordered_46
    · have hf := if_f hf c5
      refine GG.lload_n C dX0_ordered_30 3 rfl ?_
      refine GG.aload_n C dX0_ordered_31 1 rfl ?_
      obtain ⟨c8, hf⟩ := gd_some hf
      obtain ⟨r9, hr9, hf⟩ := obd_some hf
      refine GG.gx_X0_62 C rfl c8 hr9 dX0_ordered_32 ?_
      refine GG.iconst C dX0_ordered_35 ic_0 ?_
      obtain ⟨v10, hv10, hf⟩ := obd_some hf
      refine GG.lald C hv10 dX0_ordered_36 ?_
      refine GG.lcmp C dX0_ordered_37 ?_
      refine GG.if_lt C (tgt := 47) dX0_ordered_38 (by decide) (fun c11 => ?_) (fun c11 => ?_)
      · have hf := if_t hf c11
        refine GG.lload_n C dX0_ordered_47 3 rfl ?_
        refine GG.lstore C (lv' := [(5, .long a2), (4, .int v2), (0, .ref a0), (1, .int a1), (2, .long a2)]) dX0_ordered_48 (by decide) rfl ?_
        refine GG.iconst C dX0_ordered_50 ic_0 ?_
        refine GG.istore C (lv' := [(7, .int (nI 0)), (5, .long a2), (4, .int v2), (0, .ref a0), (1, .int a1), (2, .long a2)]) dX0_ordered_51 (by decide) rfl ?_
        refine GG.aload_n C dX0_ordered_53 3 rfl ?_
        refine GG.iconst C dX0_ordered_54 ic_0 ?_
        refine GG.px_X0_187 C rfl c8 dX0_ordered_55 ?_
        refine GG.topM fun M12 hM12 => ?_
        have hf := ltb_s hM12 hf
        refine GG.sub [3, 4, 1, 0] rfl ?_
        exact gX0_ordered_58 C E  FU _ _ _ _ _ hf
      · have hf := if_f hf c11
        refine GG.aload_n C dX0_ordered_41 1 rfl ?_
        refine GG.iconst C dX0_ordered_42 ic_5 ?_
        obtain ⟨p13, hp13, hf⟩ := obd_some hf
        refine GG.c_X0_124 C rfl (gX0_none hp13) c8 ⟨Nat.le_of_ble_eq_true rfl, Nat.le_of_ble_eq_true rfl⟩ ⟨Nat.le_of_ble_eq_true rfl, Nat.le_of_ble_eq_true rfl⟩ (Nat.le_of_ble_eq_true rfl) dX0_ordered_43 ?_
        have hf := Option.some.inj hf
        subst hf
        exact GG.iret C E dX0_ordered_46
  · have hf := if_f hf c3
    refine GG.aload_n C dX0_ordered_12 1 rfl ?_
    refine GG.iload C dX0_ordered_13 0 rfl ?_
    obtain ⟨p14, hp14, hf⟩ := obd_some hf
    refine GG.c_X0_124 C rfl (gX0_none hp14) c1 ⟨Nat.le_of_ble_eq_true rfl, Nat.le_of_ble_eq_true rfl⟩ ⟨Nat.le_of_ble_eq_true rfl, Nat.le_of_ble_eq_true rfl⟩ (Nat.le_of_ble_eq_true rfl) dX0_ordered_15 ?_
    have hf := Option.some.inj hf
    subst hf
    exact GG.iret C E dX0_ordered_18
