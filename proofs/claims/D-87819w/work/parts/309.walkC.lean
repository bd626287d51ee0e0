/-! FarTypewriter.guess(II)I -/
abbrev rm0_guess_2 : Room := { frames := 0, cells := 0, slots := 0, locals := 0 }
def w0_guess_2 (post : Int32 → Mm → Prop) (M : Mm) (a0 : Nat) (x1 : Int32) (x2 : Int32) : Prop :=
  (x1 < 0 → post (-2) M) ∧ (¬ x1 < 0 → (x1 < (mI M 128 a0 0) → mK M (mP M 127 a0 0) = 28 ∧ (vp_in x1 60 ∧ (mK M (mP M 28 (mP M 127 a0 0) x1.toNatClampNeg) = 9 ∧ ((x2 = 0 → post (mI M 900 (mP M 28 (mP M 127 a0 0) x1.toNatClampNeg) 0) M) ∧ (x2 = 1 → post (mI M 901 (mP M 28 (mP M 127 a0 0) x1.toNatClampNeg) 0) M) ∧ (x2 = 2 → post (mI M 902 (mP M 28 (mP M 127 a0 0) x1.toNatClampNeg) 0) M) ∧ (x2 = 3 → post (mI M 903 (mP M 28 (mP M 127 a0 0) x1.toNatClampNeg) 0) M) ∧ (x2 = 4 → post (mI M 904 (mP M 28 (mP M 127 a0 0) x1.toNatClampNeg) 0) M) ∧ (x2 = 5 → ((mI M 130 a0 0) < (mI M 901 (mP M 28 (mP M 127 a0 0) x1.toNatClampNeg) 0) → post 0 M) ∧ (¬ (mI M 130 a0 0) < (mI M 901 (mP M 28 (mP M 127 a0 0) x1.toNatClampNeg) 0) → post 1 M)) ∧ (x2 = 6 → post (mI M 905 (mP M 28 (mP M 127 a0 0) x1.toNatClampNeg) 0) M) ∧ (x2 = 7 → post (mI M 906 (mP M 28 (mP M 127 a0 0) x1.toNatClampNeg) 0) M) ∧ (¬ x2 = 0 → ¬ x2 = 1 → ¬ x2 = 2 → ¬ x2 = 3 → ¬ x2 = 4 → ¬ x2 = 5 → ¬ x2 = 6 → ¬ x2 = 7 → post (-2) M))))) ∧ (¬ x1 < (mI M 128 a0 0) → post (-2) M))
set_option maxHeartbeats 4000000 in
set_option maxRecDepth 100000 in
theorem m0_guess_2 (l : Launch) (g : CG) (AD : Nat → Prop) (M : Mm) (a0 : Nat) (x1 : Int32) (x2 : Int32) (post : Int32 → Mm → Prop) (hk_a0 : mK M a0 = 1) (hw : w0_guess_2 post M a0 x1 x2) : Met l yX0_guess_2 (ws_ yX0_guess_2 cX0_guess_2 4 (some .int)) rm0_guess_2 (CPc g AD M [.ref a0, .int x1, .int x2]) (CQi g AD M post) 0 0 AD := by
  refine Met.ofW (cc := cX0_guess_2) (maxL := 4) (ret := (some .int)) (by decide) rfl ?_
  intro p e s m args below meth c s₁ B hml hv
  obtain ⟨rfl, hK, hH, hA⟩ := hv
  have hx := B.exec
  have hb := B.bytes
  have hr : meth.sig.returnType = (some .int) := B.returns
  have hts := atoms_spec (ws := ws_ yX0_guess_2 cX0_guess_2 4 (some .int)) B.pre
  have hts : ∀ w ∈ lw_all, w.before _ s = true := fun w h => hts w (List.mem_cons_of_mem _ h)
  have hown : s.vm.findClass RX0 = some m.cls := findClass_of_methodNamed B.named
  have hlocks : meth.locks = false := B.notSynchronized
  have S : CallFix p m c cX0_guess_2 4 s _ lw_all RX0 := ⟨hx, hb, hml, hown, hts⟩
  have hS : va_S AD s.heap s.heap [] := va_S.rf
  have hE : Ext M M := Ext.rf
  have hl := lv_entry ([.ref a0, .int x1, .int x2]) (n := 4) (Nat.le_of_ble_eq_true rfl)
  rw [lg_entry_eq]
  generalize (lg_sl ([.ref a0, .int x1, .int x2]) ++ List.replicate (4 - (lg_sl ([.ref a0, .int x1, .int x2])).length) Slot.unset).toArray = ls at hl ⊢
  have hl : lv_has ls 4 [(0, .ref a0), (1, .int x1), (2, .int x2)] := hl
  unfold w0_guess_2 at hw
  refine lv_iload_n hx hb dX0_guess_2_0 rfl (lv_at hl 1 rfl) ?_
  refine lv_if_lt (tgt := 12) hx hb dX0_guess_2_1 (by decide) (fun c1 => ?_) (fun c1 => ?_)
  · have hw := hw.1 c1
    refine lv_bipush (v := (-2)) hx hb dX0_guess_2_12 (by decide) ?_
    exact co_iret S hr hlocks hH hE hS hw dX0_guess_2_14
  · have hw := hw.2 c1
    refine lv_iload_n hx hb dX0_guess_2_4 rfl (lv_at hl 1 rfl) ?_
    refine lv_aload_n hx hb dX0_guess_2_5 rfl (lv_at hl 0 rfl) ?_
    refine co_geti S hK hH 0 28 128 (by decide) ⟨by decide, rfl, rfl, rfl⟩ (Or.inl q289) hk_a0 dX0_guess_2_6 ?_
    refine lv_icmp_lt (tgt := 15) hx hb dX0_guess_2_9 (by decide) (fun c2 => ?_) (fun c2 => ?_)
    · have hw := hw.1 c2
      refine lv_aload_n hx hb dX0_guess_2_15 rfl (lv_at hl 0 rfl) ?_
      have hk3 := hw.1
      have hw := hw.2
      refine co_getr S hK hH 0 27 127 (by decide) ⟨by decide, rfl, rfl, rfl⟩ (Or.inl q288) hk_a0 (by rw [hk3]; decide) dX0_guess_2_16 ?_
      refine lv_iload_n hx hb dX0_guess_2_19 rfl (lv_at hl 1 rfl) ?_
      have hin4 := hw.1
      have hw := hw.2
      have hk5 := hw.1
      have hw := hw.2
      refine co_aald S hK hH 8 28 ⟨by decide, rfl, rfl⟩ hk3 hin4 (by rw [hk5]; decide) dX0_guess_2_20 ?_
      refine lv_astore_n (lv' := [(3, .ref (mP M 28 (mP M 127 a0 0) x1.toNatClampNeg)), (0, .ref a0), (1, .int x1), (2, .int x2)]) hx hb dX0_guess_2_21 rfl hl (by decide) rfl (fun ls hl => ?_)
      refine lv_iload_n hx hb dX0_guess_2_22 rfl (lv_at hl 3 rfl) ?_
      by_cases cs0 : x2 = 0
      · have hw := hw.1 cs0
        refine lv_tableIn (off := 45) (tgt := 68) hx hb dX0_guess_2_23 (by rw [cs0]; decide) (by rw [cs0]; decide) (by rw [cs0]; decide) (by decide) ?_
        refine lv_aload_n hx hb dX0_guess_2_68 rfl (lv_at hl 0 rfl) ?_
        refine co_geti S hK hH 8 0 900 (by decide) ⟨by decide, rfl, rfl, rfl⟩ (Or.inr ⟨_, q214⟩) hk5 dX0_guess_2_69 ?_
        exact co_iret S hr hlocks hH hE hS hw dX0_guess_2_72
      by_cases cs1 : x2 = 1
      · have hw := hw.2.1 cs1
        refine lv_tableIn (off := 50) (tgt := 73) hx hb dX0_guess_2_23 (by rw [cs1]; decide) (by rw [cs1]; decide) (by rw [cs1]; decide) (by decide) ?_
        refine lv_aload_n hx hb dX0_guess_2_73 rfl (lv_at hl 0 rfl) ?_
        refine co_geti S hK hH 8 1 901 (by decide) ⟨by decide, rfl, rfl, rfl⟩ (Or.inr ⟨_, q216⟩) hk5 dX0_guess_2_74 ?_
        exact co_iret S hr hlocks hH hE hS hw dX0_guess_2_77
      by_cases cs2 : x2 = 2
      · have hw := hw.2.2.1 cs2
        refine lv_tableIn (off := 55) (tgt := 78) hx hb dX0_guess_2_23 (by rw [cs2]; decide) (by rw [cs2]; decide) (by rw [cs2]; decide) (by decide) ?_
        refine lv_aload_n hx hb dX0_guess_2_78 rfl (lv_at hl 0 rfl) ?_
        refine co_geti S hK hH 8 2 902 (by decide) ⟨by decide, rfl, rfl, rfl⟩ (Or.inr ⟨_, q218⟩) hk5 dX0_guess_2_79 ?_
        exact co_iret S hr hlocks hH hE hS hw dX0_guess_2_82
      by_cases cs3 : x2 = 3
      · have hw := hw.2.2.2.1 cs3
        refine lv_tableIn (off := 60) (tgt := 83) hx hb dX0_guess_2_23 (by rw [cs3]; decide) (by rw [cs3]; decide) (by rw [cs3]; decide) (by decide) ?_
        refine lv_aload_n hx hb dX0_guess_2_83 rfl (lv_at hl 0 rfl) ?_
        refine co_geti S hK hH 8 3 903 (by decide) ⟨by decide, rfl, rfl, rfl⟩ (Or.inr ⟨_, q220⟩) hk5 dX0_guess_2_84 ?_
        exact co_iret S hr hlocks hH hE hS hw dX0_guess_2_87
      by_cases cs4 : x2 = 4
      · have hw := hw.2.2.2.2.1 cs4
        refine lv_tableIn (off := 65) (tgt := 88) hx hb dX0_guess_2_23 (by rw [cs4]; decide) (by rw [cs4]; decide) (by rw [cs4]; decide) (by decide) ?_
        refine lv_aload_n hx hb dX0_guess_2_88 rfl (lv_at hl 0 rfl) ?_
        refine co_geti S hK hH 8 4 904 (by decide) ⟨by decide, rfl, rfl, rfl⟩ (Or.inr ⟨_, q222⟩) hk5 dX0_guess_2_89 ?_
        exact co_iret S hr hlocks hH hE hS hw dX0_guess_2_92
      by_cases cs5 : x2 = 5
      · have hw := hw.2.2.2.2.2.1 cs5
        refine lv_tableIn (off := 70) (tgt := 93) hx hb dX0_guess_2_23 (by rw [cs5]; decide) (by rw [cs5]; decide) (by rw [cs5]; decide) (by decide) ?_
        refine lv_aload_n hx hb dX0_guess_2_93 rfl (lv_at hl 0 rfl) ?_
        refine co_geti S hK hH 8 1 901 (by decide) ⟨by decide, rfl, rfl, rfl⟩ (Or.inr ⟨_, q216⟩) hk5 dX0_guess_2_94 ?_
        refine lv_aload_n hx hb dX0_guess_2_97 rfl (lv_at hl 1 rfl) ?_
        refine co_geti S hK hH 0 30 130 (by decide) ⟨by decide, rfl, rfl, rfl⟩ (Or.inl q291) hk_a0 dX0_guess_2_98 ?_
        refine lv_icmp_gt (tgt := 108) hx hb dX0_guess_2_101 (by decide) (fun c6 => ?_) (fun c6 => ?_)
        · have hw := hw.1 c6
          refine lv_iconst (v := 0) hx hb dX0_guess_2_108 (by decide) ?_
          exact co_iret S hr hlocks hH hE hS hw dX0_guess_2_109
        · have hw := hw.2 c6
          refine lv_iconst (v := 1) hx hb dX0_guess_2_104 (by decide) ?_
          refine lv_goto (tgt := 109) hx hb dX0_guess_2_105 (by decide) ?_
          exact co_iret S hr hlocks hH hE hS hw dX0_guess_2_109
      by_cases cs6 : x2 = 6
      · have hw := hw.2.2.2.2.2.2.1 cs6
        refine lv_tableIn (off := 87) (tgt := 110) hx hb dX0_guess_2_23 (by rw [cs6]; decide) (by rw [cs6]; decide) (by rw [cs6]; decide) (by decide) ?_
        refine lv_aload_n hx hb dX0_guess_2_110 rfl (lv_at hl 0 rfl) ?_
        refine co_geti S hK hH 8 5 905 (by decide) ⟨by decide, rfl, rfl, rfl⟩ (Or.inr ⟨_, q224⟩) hk5 dX0_guess_2_111 ?_
        exact co_iret S hr hlocks hH hE hS hw dX0_guess_2_114
      by_cases cs7 : x2 = 7
      · have hw := hw.2.2.2.2.2.2.2.1 cs7
        refine lv_tableIn (off := 92) (tgt := 115) hx hb dX0_guess_2_23 (by rw [cs7]; decide) (by rw [cs7]; decide) (by rw [cs7]; decide) (by decide) ?_
        refine lv_aload_n hx hb dX0_guess_2_115 rfl (lv_at hl 0 rfl) ?_
        refine co_geti S hK hH 8 6 906 (by decide) ⟨by decide, rfl, rfl, rfl⟩ (Or.inr ⟨_, q226⟩) hk5 dX0_guess_2_116 ?_
        exact co_iret S hr hlocks hH hE hS hw dX0_guess_2_119
      have hw := hw.2.2.2.2.2.2.2.2 cs0 cs1 cs2 cs3 cs4 cs5 cs6 cs7
      have ne0 := lv_neT (a := 0) cs0 rfl
      have ne1 := lv_neT (a := 1) cs1 rfl
      have ne2 := lv_neT (a := 2) cs2 rfl
      have ne3 := lv_neT (a := 3) cs3 rfl
      have ne4 := lv_neT (a := 4) cs4 rfl
      have ne5 := lv_neT (a := 5) cs5 rfl
      have ne6 := lv_neT (a := 6) cs6 rfl
      have ne7 := lv_neT (a := 7) cs7 rfl
      refine lv_tableOut (tgt := 120) hx hb dX0_guess_2_23 (by omega) (by decide) ?_
      refine lv_bipush (v := (-2)) hx hb dX0_guess_2_120 (by decide) ?_
      exact co_iret S hr hlocks hH hE hS hw dX0_guess_2_122
    · have hw := hw.2 c2
      refine lv_bipush (v := (-2)) hx hb dX0_guess_2_12 (by decide) ?_
      exact co_iret S hr hlocks hH hE hS hw dX0_guess_2_14
/-! FarTypewriter.<init>()V -/
abbrev rm0_init : Room := { frames := 5, cells := 1636, slots := 121595, locals := 244 }
def b0_init_162 (post : Mm → Prop)  (kb : Mm → Nat → Int32 → Prop) (M : Mm) (a0 : Nat) (x1 : Int32) : Prop :=
  (60 ≤ x1 → w0_begin (fun (M185 : Mm) => post M185) M a0) ∧ (¬ 60 ≤ x1 → mK M (mP M 127 a0 0) = 28 ∧ (∀ M192 : Mm, M192 = sN M 9 → (w8_init (fun (M196 : Mm) => vp_in x1 60 ∧ (∀ M204 : Mm, M204 = sP M196 28 (mP M 127 a0 0) x1.toNatClampNeg (mZ M) → (kb M204 a0 (x1 + 1)))) M192 (mZ M))))
def w0_init_162 (post : Mm → Prop)  : Nat → Mm → Nat → Int32 → Prop
  | 0 => fun _ _ _ => False
  | n + 1 => b0_init_162 post  (w0_init_162 post  n)
set_option maxHeartbeats 4000000 in
set_option maxRecDepth 100000 in
theorem r0_init_162 {p : Program} {l : Launch} {e : Env} {s : State} {m : MethodId} {args : Array Value} {below : List Frame} {meth : Method} {c : Code} {g : CG} {AD : Nat → Prop} {M0 : Mm} (S : CallFix p m c cX0_init 2 s args lw_all RX0) (hr : meth.sig.returnType = none) (hlocks : meth.locks = false) (hK : KC g s) (hA : ∀ q, s.heap.size ≤ q → AD q) (hin : meth.name = "<init>") {post : Mm → Prop}  : ∀ n cl sl : Nat, cl + n * 1 ≤ 1617 → sl + n * 7 ≤ 121191 → ∀ (M : Mm) (a0 : Nat) (x1 : Int32), w0_init_162 post  n M a0 x1 → Ext M0 M → mK M a0 = 1 → ∀ (H : Heap) (locs : List Loc), HC g AD M H → va_S AD s.heap H locs → ∀ (ls : Array Slot), lv_has ls 2 [(0, .ref a0), (1, .int x1)] → W p l e rm0_init s m args below meth c H locs cl sl (MQ below (CQv g AD M0 post) args s 1636 121595 AD) (F0 m 162 ls []) := by
  have hx := S.1
  have hb := S.2.1
  have hown := S.2.2.2.1
  have hts := S.2.2.2.2
  intro n
  induction n with
  | zero =>
    intro cl sl hcl hsl M a0 x1 hw
    exact hw.elim
  | succ n hkb =>
    intro cl sl hcl hsl M a0 x1 hw hE hk_a0 H locs hH hS ls hl
    unfold w0_init_162 b0_init_162 at hw
    refine lv_iload_n hx hb dX0_init_162 rfl (lv_at hl 1 rfl) ?_
    refine lv_bipush (v := 60) hx hb dX0_init_163 (by decide) ?_
    refine lv_icmp_ge (tgt := 187) hx hb dX0_init_165 (by decide) (fun c184 => ?_) (fun c184 => ?_)
    · have hw := hw.1 c184
      refine lv_aload_n hx hb dX0_init_187 rfl (lv_at hl 0 rfl) ?_
      refine co_callv (va_runV (As := []) (rest := []) S (m0_begin l g AD M a0 _ hk_a0 hw) (cwV 0 hts (lw_V q242 q244 qs0 q54 q245) rfl rfl rfl (by decide +kernel) ⟨Nat.le_of_ble_eq_true rfl, Nat.le_of_ble_eq_true rfl⟩) ⟨co_blind, co_recv hK hH (c := 0) (by decide) hk_a0, co_pre hK hH hA hS⟩ rfl rfl hl.1 rfl (lv_room (Nat.le_of_ble_eq_true rfl)) dX0_init_188 ⟨(by have q2 : ckN 2 = 2 := rfl; have q4 : ckN 4 = 3 := rfl; have q8 : ckN 8 = 7 := rfl; show _ ≤ 1636; omega), (by have q2 : ckN 2 = 2 := rfl; have q4 : ckN 4 = 3 := rfl; have q8 : ckN 8 = 7 := rfl; show _ ≤ 121595; omega)⟩) hS (fun M185 H locs hw hH hE187 hS => ?_)
      have hk189 := hE187.k hk_a0 (by decide)
      have hE := hE.tr hE187
      refine W.widen (k := 1636) (n := 121595) (by have q2 : ckN 2 = 2 := rfl; have q4 : ckN 4 = 3 := rfl; have q8 : ckN 8 = 7 := rfl; omega) (by have q2 : ckN 2 = 2 := rfl; have q4 : ckN 4 = 3 := rfl; have q8 : ckN 8 = 7 := rfl; omega) ?_
      exact co_vret S hr hlocks hH hE hS hw dX0_init_191
    · have hw := hw.2 c184
      refine lv_aload_n hx hb dX0_init_168 rfl (lv_at hl 0 rfl) ?_
      have hk190 := hw.1
      have hw := hw.2
      refine co_getr S hK hH 0 27 127 (by decide) ⟨by decide, rfl, rfl, rfl⟩ (Or.inl q288) hk_a0 (by rw [hk190]; decide) dX0_init_169 ?_
      refine lv_iload_n hx hb dX0_init_172 rfl (lv_at hl 1 rfl) ?_
      have hE191 := Ext.new hH 9
      refine co_new S hK hH hS hA 8 9 (by decide) rfl q206 q208 q62 (by decide) (by have q2 : ckN 2 = 2 := rfl; have q4 : ckN 4 = 3 := rfl; have q8 : ckN 8 = 7 := rfl; show _ ≤ 1636; omega) (by have q2 : ckN 2 = 2 := rfl; have q4 : ckN 4 = 3 := rfl; have q8 : ckN 8 = 7 := rfl; show _ ≤ 121595; omega) dX0_init_173 (fun H hH hS => ?_)
      obtain ⟨M192, eM192⟩ : ∃ y : Mm, y = sN M 9 := ⟨_, rfl⟩
      have hw := hw M192 eM192
      rw [← eM192] at hH hE191
      have hk193 := hE191.k hk_a0 (by decide)
      have hk194 := hE191.k hk190 (by decide)
      have hE := hE.tr hE191
      have hk195 : mK M192 (mZ M) = 9 := by rw [eM192]; exact mK_new M 9
      refine lv_dup hx hb dX0_init_176 rfl ?_
      refine co_callv (va_runIN (As := []) (rest := [.ref (mZ M), .int x1, .ref (mP M 127 a0 0)]) S (m8_init l g AD M192 (mZ M) _ hk195 hw) ⟨va_cnB 0 hts (lw_meth q211) rfl rfl rfl (hK.2.2.2.1 _ q209 rfl) (hts _ q62) (by decide +kernel) ⟨Nat.le_of_ble_eq_true rfl, Nat.le_of_ble_eq_true rfl⟩, rfl, hts _ q210⟩ ⟨co_blind, co_pre hK hH hA hS⟩ rfl rfl hl.1 rfl (lv_room (Nat.le_of_ble_eq_true rfl)) dX0_init_177 ⟨(by have q2 : ckN 2 = 2 := rfl; have q4 : ckN 4 = 3 := rfl; have q8 : ckN 8 = 7 := rfl; show _ ≤ 1636; omega), (by have q2 : ckN 2 = 2 := rfl; have q4 : ckN 4 = 3 := rfl; have q8 : ckN 8 = 7 := rfl; show _ ≤ 121595; omega)⟩) hS (fun M196 H locs hw hH hE198 hS => ?_)
      have hk200 := hE198.k hk193 (by decide)
      have hk201 := hE198.k hk195 (by decide)
      have hk202 := hE198.k hk194 (by decide)
      have hE := hE.tr hE198
      have hin203 := hw.1
      have hw := hw.2
      refine co_aast S hK hH hS 8 28 ⟨by decide, rfl, rfl⟩ hk202 (Or.inr ⟨8, by decide, hk201, rfl⟩) hin203 dX0_init_180 (fun H locs hH hS => ?_)
      obtain ⟨M204, eM204⟩ : ∃ y : Mm, y = sP M196 28 (mP M 127 a0 0) x1.toNatClampNeg (mZ M) := ⟨_, rfl⟩
      have hw := hw M204 eM204
      rw [← eM204] at hH
      have hE205 : Ext M196 M204 := by rw [eM204]; exact Ext.sP
      have hk206 := hE205.k hk200 (by decide)
      have hE := hE.tr hE205
      refine lv_iinc (v := x1 + 1) (lv' := [(1, .int (x1 + 1)), (0, .ref a0)]) hx hb dX0_init_181 hl (k := 1) rfl rfl (by decide) rfl (fun ls hl => ?_)
      refine lv_goto (tgt := 162) hx hb dX0_init_184 (by decide) ?_
      exact hkb _ _ (by have q2 : ckN 2 = 2 := rfl; have q4 : ckN 4 = 3 := rfl; have q8 : ckN 8 = 7 := rfl; omega) (by have q2 : ckN 2 = 2 := rfl; have q4 : ckN 4 = 3 := rfl; have q8 : ckN 8 = 7 := rfl; omega) _ _ _ hw hE hk206 _ _ hH hS _ (lv_sub hl [1, 0] rfl)
def w0_init (post : Mm → Prop) (M : Mm) (a0 : Nat) : Prop :=
  ∀ M1 : Mm, M1 = sI M 100 a0 0 2 → (∀ M4 : Mm, M4 = sI M1 101 a0 0 5 → (∀ M8 : Mm, M8 = sN M4 24 → (∀ M11 : Mm, M11 = sP M8 103 a0 0 (mZ M4) → (∀ M15 : Mm, M15 = sN M11 27 → (∀ M19 : Mm, M19 = sN M15 2 → (w1_init (fun (M24 : Mm) => vp_in 0 2 ∧ (∀ M34 : Mm, M34 = sP M24 27 (mZ M11) (0 : Int32).toNatClampNeg (mZ M15) → (∀ M40 : Mm, M40 = sN M34 2 → (w1_init (fun (M45 : Mm) => vp_in 1 2 ∧ (∀ M55 : Mm, M55 = sP M45 27 (mZ M11) (1 : Int32).toNatClampNeg (mZ M34) → (∀ M60 : Mm, M60 = sP M55 104 a0 0 (mZ M11) → (∀ M64 : Mm, M64 = sN M60 3 → (w2_init (fun (M67 : Mm) => ∀ M74 : Mm, M74 = sP M67 105 a0 0 (mZ M60) → (∀ M78 : Mm, M78 = sN M74 23 → (∀ M81 : Mm, M81 = sP M78 106 a0 0 (mZ M74) → (∀ M84 : Mm, M84 = sI M81 111 a0 0 1 → (∀ M88 : Mm, M88 = sN M84 4 → (w3_init (fun (M91 : Mm) => ∀ M98 : Mm, M98 = sP M91 114 a0 0 (mZ M84) → (∀ M102 : Mm, M102 = sN M98 8 → (w7_init (fun (M105 : Mm) => ∀ M112 : Mm, M112 = sP M105 115 a0 0 (mZ M98) → (∀ M115 : Mm, M115 = sI M112 122 a0 0 1 → (∀ M119 : Mm, M119 = sN M115 4 → (w3_init (fun (M122 : Mm) => ∀ M129 : Mm, M129 = sP M122 125 a0 0 (mZ M115) → (∀ M133 : Mm, M133 = sN M129 6 → (w5_init (fun (M136 : Mm) => ∀ M143 : Mm, M143 = sP M136 126 a0 0 (mZ M129) → (∀ M147 : Mm, M147 = sN M143 28 → (∀ M150 : Mm, M150 = sP M147 127 a0 0 (mZ M143) → (∀ M153 : Mm, M153 = sI M150 129 a0 0 1 → (∀ M157 : Mm, M157 = sN M153 6 → (w5_init (fun (M160 : Mm) => ∀ M167 : Mm, M167 = sP M160 131 a0 0 (mZ M153) → (∀ M171 : Mm, M171 = sN M167 6 → (w5_init (fun (M174 : Mm) => ∀ M181 : Mm, M181 = sP M174 132 a0 0 (mZ M167) → (w0_init_162 post  61 M181 a0 0)) M171 (mZ M167)))) M157 (mZ M153))))))) M133 (mZ M129)))) M119 (mZ M115))))) M102 (mZ M98)))) M88 (mZ M84))))))) M64 (mZ M60)))))) M40 (mZ M34))))) M19 (mZ M15)))))))
set_option maxHeartbeats 4000000 in
set_option maxRecDepth 100000 in
theorem m0_init (l : Launch) (g : CG) (AD : Nat → Prop) (M : Mm) (a0 : Nat) (post : Mm → Prop) (hk_a0 : mK M a0 = 1) (hw : w0_init post M a0) : Met l yX0_init (ws_ yX0_init cX0_init 2 none) rm0_init (CPc g AD M [.ref a0]) (CQv g AD M post) 1636 121595 AD := by
  refine Met.ofW (cc := cX0_init) (maxL := 2) (ret := none) (by decide) rfl ?_
  intro p e s m args below meth c s₁ B hml hv
  obtain ⟨rfl, hK, hH, hA⟩ := hv
  have hx := B.exec
  have hb := B.bytes
  have hr : meth.sig.returnType = none := B.returns
  have hts := atoms_spec (ws := ws_ yX0_init cX0_init 2 none) B.pre
  have hts : ∀ w ∈ lw_all, w.before _ s = true := fun w h => hts w (List.mem_cons_of_mem _ h)
  have hown : s.vm.findClass RX0 = some m.cls := findClass_of_methodNamed B.named
  have hlocks : meth.locks = false := B.notSynchronized
  have hin : meth.name = "<init>" := (name_of_methodNamed B.named B.method).1
  have S : CallFix p m c cX0_init 2 s _ lw_all RX0 := ⟨hx, hb, hml, hown, hts⟩
  have hS : va_S AD s.heap s.heap [] := va_S.rf
  have hE : Ext M M := Ext.rf
  have hl := lv_entry ([.ref a0]) (n := 2) (Nat.le_of_ble_eq_true rfl)
  rw [lg_entry_eq]
  generalize (lg_sl ([.ref a0]) ++ List.replicate (2 - (lg_sl ([.ref a0])).length) Slot.unset).toArray = ls at hl ⊢
  have hl : lv_has ls 2 [(0, .ref a0)] := hl
  unfold w0_init at hw
  refine lv_aload_n hx hb dX0_init_0 rfl (lv_at hl 0 rfl) ?_
  refine W.objInit hx hb hown (hts _ q80) (hts _ q81) (hts _ q82) rfl (by rw [S.2.2.1]; exact hl.1) rfl dX0_init_1 (Nat.le_of_ble_eq_true rfl) (Nat.le_of_ble_eq_true rfl) ?_
  refine W.eq (g2 := F0 m 4 ls []) rfl ?_
  refine lv_aload_n hx hb dX0_init_4 rfl (lv_at hl 0 rfl) ?_
  refine lv_iconst (v := 2) hx hb dX0_init_5 (by decide) ?_
  refine co_puti S hK hH hS 0 0 100 (by decide) ⟨by decide, rfl, rfl, rfl, rfl⟩ (Or.inl q261) hk_a0 ⟨rfl, rfl⟩ dX0_init_6 (fun H locs hH hS => ?_)
  obtain ⟨M1, eM1⟩ : ∃ y : Mm, y = sI M 100 a0 0 2 := ⟨_, rfl⟩
  have hw := hw M1 eM1
  rw [← eM1] at hH
  have hE2 : Ext M M1 := by rw [eM1]; exact Ext.sI
  have hk3 := hE2.k hk_a0 (by decide)
  have hE := hE.tr hE2
  refine lv_aload_n hx hb dX0_init_9 rfl (lv_at hl 0 rfl) ?_
  refine lv_iconst (v := 5) hx hb dX0_init_10 (by decide) ?_
  refine co_puti S hK hH hS 0 1 101 (by decide) ⟨by decide, rfl, rfl, rfl, rfl⟩ (Or.inl q262) hk3 ⟨rfl, rfl⟩ dX0_init_11 (fun H locs hH hS => ?_)
  obtain ⟨M4, eM4⟩ : ∃ y : Mm, y = sI M1 101 a0 0 5 := ⟨_, rfl⟩
  have hw := hw M4 eM4
  rw [← eM4] at hH
  have hE5 : Ext M1 M4 := by rw [eM4]; exact Ext.sI
  have hk6 := hE5.k hk3 (by decide)
  have hE := hE.tr hE5
  refine lv_aload_n hx hb dX0_init_14 rfl (lv_at hl 0 rfl) ?_
  refine lv_bipush (v := 10) hx hb dX0_init_15 (by decide) ?_
  have hE7 := Ext.new hH 24
  refine co_newp (atype := .int) S hK hH hS hA 4 24 ⟨by decide, rfl, rfl, rfl, rfl⟩ q106 (n := 10) ⟨by decide, by decide⟩ (by decide) (Nat.le_of_ble_eq_true rfl) (Nat.le_of_ble_eq_true rfl) dX0_init_17 (fun H hH hS => ?_)
  obtain ⟨M8, eM8⟩ : ∃ y : Mm, y = sN M4 24 := ⟨_, rfl⟩
  have hw := hw M8 eM8
  rw [← eM8] at hH hE7
  have hk9 := hE7.k hk6 (by decide)
  have hE := hE.tr hE7
  have hk10 : mK M8 (mZ M4) = 24 := by rw [eM8]; exact mK_new M4 24
  refine co_putF S hin hK hH hS 0 3 103 (by decide) ⟨by decide, rfl, rfl, rfl, rfl⟩ rfl q264 hk9 (by rw [hk10]; decide) ⟨rfl, rfl⟩ dX0_init_19 (fun H locs hH hS => ?_)
  obtain ⟨M11, eM11⟩ : ∃ y : Mm, y = sP M8 103 a0 0 (mZ M4) := ⟨_, rfl⟩
  have hw := hw M11 eM11
  rw [← eM11] at hH
  have hE12 : Ext M8 M11 := by rw [eM11]; exact Ext.sP
  have hk13 := hE12.k hk9 (by decide)
  have hE := hE.tr hE12
  refine lv_aload_n hx hb dX0_init_22 rfl (lv_at hl 0 rfl) ?_
  refine lv_iconst (v := 2) hx hb dX0_init_23 (by decide) ?_
  have hE14 := Ext.new hH 27
  refine co_newq S hK hH hS hA 7 27 ⟨by decide, rfl, rfl⟩ q83 hK.2.2.2.2.1 (n := 2) ⟨by decide, by decide⟩ (by decide) (Nat.le_of_ble_eq_true rfl) (Nat.le_of_ble_eq_true rfl) dX0_init_24 (fun H hH hS => ?_)
  obtain ⟨M15, eM15⟩ : ∃ y : Mm, y = sN M11 27 := ⟨_, rfl⟩
  have hw := hw M15 eM15
  rw [← eM15] at hH hE14
  have hk16 := hE14.k hk13 (by decide)
  have hE := hE.tr hE14
  have hk17 : mK M15 (mZ M11) = 27 := by rw [eM15]; exact mK_new M11 27
  refine lv_dup hx hb dX0_init_27 rfl ?_
  refine lv_iconst (v := 0) hx hb dX0_init_28 (by decide) ?_
  have hE18 := Ext.new hH 2
  refine co_new S hK hH hS hA 1 2 (by decide) rfl q83 q85 q55 (by decide) (Nat.le_of_ble_eq_true rfl) (Nat.le_of_ble_eq_true rfl) dX0_init_29 (fun H hH hS => ?_)
  obtain ⟨M19, eM19⟩ : ∃ y : Mm, y = sN M15 2 := ⟨_, rfl⟩
  have hw := hw M19 eM19
  rw [← eM19] at hH hE18
  have hk20 := hE18.k hk16 (by decide)
  have hk21 := hE18.k hk17 (by decide)
  have hk22 := hE18.k hk16 (by decide)
  have hE := hE.tr hE18
  have hk23 : mK M19 (mZ M15) = 2 := by rw [eM19]; exact mK_new M15 2
  refine lv_dup hx hb dX0_init_32 rfl ?_
  refine co_callv (va_runI (As := []) (rest := [.ref (mZ M15), .int 0, .ref (mZ M11), .ref (mZ M11), .ref a0]) S (m1_init l g AD M19 (mZ M15) _ hk23 hw) (cwI 0 hts (lw_meth q88) rfl rfl rfl (hts _ q55) (hts _ q86) (hts _ q87) rfl (by decide +kernel) ⟨Nat.le_of_ble_eq_true rfl, Nat.le_of_ble_eq_true rfl⟩) ⟨co_blind, co_pre hK hH hA hS⟩ rfl rfl hl.1 rfl (lv_room (Nat.le_of_ble_eq_true rfl)) dX0_init_33 ⟨(Nat.le_of_ble_eq_true rfl), (Nat.le_of_ble_eq_true rfl)⟩) hS (fun M24 H locs hw hH hE26 hS => ?_)
  have hk28 := hE26.k hk20 (by decide)
  have hk29 := hE26.k hk23 (by decide)
  have hk30 := hE26.k hk21 (by decide)
  have hk31 := hE26.k hk21 (by decide)
  have hk32 := hE26.k hk22 (by decide)
  have hE := hE.tr hE26
  have hin33 := hw.1
  have hw := hw.2
  refine co_aast S hK hH hS 7 27 ⟨by decide, rfl, rfl⟩ hk30 (Or.inr ⟨1, by decide, hk29, rfl⟩) hin33 dX0_init_36 (fun H locs hH hS => ?_)
  obtain ⟨M34, eM34⟩ : ∃ y : Mm, y = sP M24 27 (mZ M11) (0 : Int32).toNatClampNeg (mZ M15) := ⟨_, rfl⟩
  have hw := hw M34 eM34
  rw [← eM34] at hH
  have hE35 : Ext M24 M34 := by rw [eM34]; exact Ext.sP
  have hk36 := hE35.k hk28 (by decide)
  have hk37 := hE35.k hk31 (by decide)
  have hk38 := hE35.k hk32 (by decide)
  have hE := hE.tr hE35
  refine lv_dup hx hb dX0_init_37 rfl ?_
  refine lv_iconst (v := 1) hx hb dX0_init_38 (by decide) ?_
  have hE39 := Ext.new hH 2
  refine co_new S hK hH hS hA 1 2 (by decide) rfl q83 q85 q55 (by decide) (Nat.le_of_ble_eq_true rfl) (Nat.le_of_ble_eq_true rfl) dX0_init_39 (fun H hH hS => ?_)
  obtain ⟨M40, eM40⟩ : ∃ y : Mm, y = sN M34 2 := ⟨_, rfl⟩
  have hw := hw M40 eM40
  rw [← eM40] at hH hE39
  have hk41 := hE39.k hk36 (by decide)
  have hk42 := hE39.k hk37 (by decide)
  have hk43 := hE39.k hk38 (by decide)
  have hE := hE.tr hE39
  have hk44 : mK M40 (mZ M34) = 2 := by rw [eM40]; exact mK_new M34 2
  refine lv_dup hx hb dX0_init_42 rfl ?_
  refine co_callv (va_runI (As := []) (rest := [.ref (mZ M34), .int 1, .ref (mZ M11), .ref (mZ M11), .ref a0]) S (m1_init l g AD M40 (mZ M34) _ hk44 hw) (cwI 0 hts (lw_meth q88) rfl rfl rfl (hts _ q55) (hts _ q86) (hts _ q87) rfl (by decide +kernel) ⟨Nat.le_of_ble_eq_true rfl, Nat.le_of_ble_eq_true rfl⟩) ⟨co_blind, co_pre hK hH hA hS⟩ rfl rfl hl.1 rfl (lv_room (Nat.le_of_ble_eq_true rfl)) dX0_init_43 ⟨(Nat.le_of_ble_eq_true rfl), (Nat.le_of_ble_eq_true rfl)⟩) hS (fun M45 H locs hw hH hE47 hS => ?_)
  have hk49 := hE47.k hk41 (by decide)
  have hk50 := hE47.k hk44 (by decide)
  have hk51 := hE47.k hk42 (by decide)
  have hk52 := hE47.k hk42 (by decide)
  have hk53 := hE47.k hk43 (by decide)
  have hE := hE.tr hE47
  have hin54 := hw.1
  have hw := hw.2
  refine co_aast S hK hH hS 7 27 ⟨by decide, rfl, rfl⟩ hk51 (Or.inr ⟨1, by decide, hk50, rfl⟩) hin54 dX0_init_46 (fun H locs hH hS => ?_)
  obtain ⟨M55, eM55⟩ : ∃ y : Mm, y = sP M45 27 (mZ M11) (1 : Int32).toNatClampNeg (mZ M34) := ⟨_, rfl⟩
  have hw := hw M55 eM55
  rw [← eM55] at hH
  have hE56 : Ext M45 M55 := by rw [eM55]; exact Ext.sP
  have hk57 := hE56.k hk49 (by decide)
  have hk58 := hE56.k hk52 (by decide)
  have hk59 := hE56.k hk53 (by decide)
  have hE := hE.tr hE56
  refine co_putF S hin hK hH hS 0 4 104 (by decide) ⟨by decide, rfl, rfl, rfl, rfl⟩ rfl q265 hk59 (by rw [hk58]; decide) ⟨rfl, rfl⟩ dX0_init_47 (fun H locs hH hS => ?_)
  obtain ⟨M60, eM60⟩ : ∃ y : Mm, y = sP M55 104 a0 0 (mZ M11) := ⟨_, rfl⟩
  have hw := hw M60 eM60
  rw [← eM60] at hH
  have hE61 : Ext M55 M60 := by rw [eM60]; exact Ext.sP
  have hk62 := hE61.k hk57 (by decide)
  have hE := hE.tr hE61
  refine lv_aload_n hx hb dX0_init_50 rfl (lv_at hl 0 rfl) ?_
  have hE63 := Ext.new hH 3
  refine co_new S hK hH hS hA 2 3 (by decide) rfl q117 q92 q56 (by decide) (Nat.le_of_ble_eq_true rfl) (Nat.le_of_ble_eq_true rfl) dX0_init_51 (fun H hH hS => ?_)
  obtain ⟨M64, eM64⟩ : ∃ y : Mm, y = sN M60 3 := ⟨_, rfl⟩
  have hw := hw M64 eM64
  rw [← eM64] at hH hE63
  have hk65 := hE63.k hk62 (by decide)
  have hE := hE.tr hE63
  have hk66 : mK M64 (mZ M60) = 3 := by rw [eM64]; exact mK_new M60 3
  refine lv_dup hx hb dX0_init_54 rfl ?_
  refine co_callv (va_runIN (As := []) (rest := [.ref (mZ M60), .ref a0]) S (m2_init l g AD M64 (mZ M60) _ hk66 hw) ⟨va_cnB 0 hts (lw_meth q95) rfl rfl rfl (hK.2.2.2.1 _ q118 rfl) (hts _ q56) (by decide +kernel) ⟨Nat.le_of_ble_eq_true rfl, Nat.le_of_ble_eq_true rfl⟩, rfl, hts _ q94⟩ ⟨co_blind, co_pre hK hH hA hS⟩ rfl rfl hl.1 rfl (lv_room (Nat.le_of_ble_eq_true rfl)) dX0_init_55 ⟨(Nat.le_of_ble_eq_true rfl), (Nat.le_of_ble_eq_true rfl)⟩) hS (fun M67 H locs hw hH hE69 hS => ?_)
  have hk71 := hE69.k hk65 (by decide)
  have hk72 := hE69.k hk66 (by decide)
  have hk73 := hE69.k hk65 (by decide)
  have hE := hE.tr hE69
  refine co_putF S hin hK hH hS 0 5 105 (by decide) ⟨by decide, rfl, rfl, rfl, rfl⟩ rfl q266 hk73 (by rw [hk72]; decide) ⟨rfl, rfl⟩ dX0_init_58 (fun H locs hH hS => ?_)
  obtain ⟨M74, eM74⟩ : ∃ y : Mm, y = sP M67 105 a0 0 (mZ M60) := ⟨_, rfl⟩
  have hw := hw M74 eM74
  rw [← eM74] at hH
  have hE75 : Ext M67 M74 := by rw [eM74]; exact Ext.sP
  have hk76 := hE75.k hk71 (by decide)
  have hE := hE.tr hE75
  refine lv_aload_n hx hb dX0_init_61 rfl (lv_at hl 0 rfl) ?_
  refine lv_sipush (v := 1000) hx hb dX0_init_62 (by decide) ?_
  have hE77 := Ext.new hH 23
  refine co_newp (atype := .byte) S hK hH hS hA 3 23 ⟨by decide, rfl, rfl, rfl, rfl⟩ q107 (n := 1000) ⟨by decide, by decide⟩ (by decide) (Nat.le_of_ble_eq_true rfl) (Nat.le_of_ble_eq_true rfl) dX0_init_65 (fun H hH hS => ?_)
  obtain ⟨M78, eM78⟩ : ∃ y : Mm, y = sN M74 23 := ⟨_, rfl⟩
  have hw := hw M78 eM78
  rw [← eM78] at hH hE77
  have hk79 := hE77.k hk76 (by decide)
  have hE := hE.tr hE77
  have hk80 : mK M78 (mZ M74) = 23 := by rw [eM78]; exact mK_new M74 23
  refine co_putF S hin hK hH hS 0 6 106 (by decide) ⟨by decide, rfl, rfl, rfl, rfl⟩ rfl q267 hk79 (by rw [hk80]; decide) ⟨rfl, rfl⟩ dX0_init_67 (fun H locs hH hS => ?_)
  obtain ⟨M81, eM81⟩ : ∃ y : Mm, y = sP M78 106 a0 0 (mZ M74) := ⟨_, rfl⟩
  have hw := hw M81 eM81
  rw [← eM81] at hH
  have hE82 : Ext M78 M81 := by rw [eM81]; exact Ext.sP
  have hk83 := hE82.k hk79 (by decide)
  have hE := hE.tr hE82
  refine lv_aload_n hx hb dX0_init_70 rfl (lv_at hl 0 rfl) ?_
  refine lv_iconst (v := 1) hx hb dX0_init_71 (by decide) ?_
  refine co_puti S hK hH hS 0 11 111 (by decide) ⟨by decide, rfl, rfl, rfl, rfl⟩ (Or.inl q272) hk83 ⟨rfl, rfl⟩ dX0_init_72 (fun H locs hH hS => ?_)
  obtain ⟨M84, eM84⟩ : ∃ y : Mm, y = sI M81 111 a0 0 1 := ⟨_, rfl⟩
  have hw := hw M84 eM84
  rw [← eM84] at hH
  have hE85 : Ext M81 M84 := by rw [eM84]; exact Ext.sI
  have hk86 := hE85.k hk83 (by decide)
  have hE := hE.tr hE85
  refine lv_aload_n hx hb dX0_init_75 rfl (lv_at hl 0 rfl) ?_
  have hE87 := Ext.new hH 4
  refine co_new S hK hH hS hA 3 4 (by decide) rfl q119 q120 q57 (by decide) (Nat.le_of_ble_eq_true rfl) (Nat.le_of_ble_eq_true rfl) dX0_init_76 (fun H hH hS => ?_)
  obtain ⟨M88, eM88⟩ : ∃ y : Mm, y = sN M84 4 := ⟨_, rfl⟩
  have hw := hw M88 eM88
  rw [← eM88] at hH hE87
  have hk89 := hE87.k hk86 (by decide)
  have hE := hE.tr hE87
  have hk90 : mK M88 (mZ M84) = 4 := by rw [eM88]; exact mK_new M84 4
  refine lv_dup hx hb dX0_init_79 rfl ?_
  refine co_callv (va_runI (As := []) (rest := [.ref (mZ M84), .ref a0]) S (m3_init l g AD M88 (mZ M84) _ hk90 hw) (cwI 0 hts (lw_meth q123) rfl rfl rfl (hts _ q57) (hts _ q121) (hts _ q122) rfl (by decide +kernel) ⟨Nat.le_of_ble_eq_true rfl, Nat.le_of_ble_eq_true rfl⟩) ⟨co_blind, co_pre hK hH hA hS⟩ rfl rfl hl.1 rfl (lv_room (Nat.le_of_ble_eq_true rfl)) dX0_init_80 ⟨(Nat.le_of_ble_eq_true rfl), (Nat.le_of_ble_eq_true rfl)⟩) hS (fun M91 H locs hw hH hE93 hS => ?_)
  have hk95 := hE93.k hk89 (by decide)
  have hk96 := hE93.k hk90 (by decide)
  have hk97 := hE93.k hk89 (by decide)
  have hE := hE.tr hE93
  refine co_putF S hin hK hH hS 0 14 114 (by decide) ⟨by decide, rfl, rfl, rfl, rfl⟩ rfl q275 hk97 (by rw [hk96]; decide) ⟨rfl, rfl⟩ dX0_init_83 (fun H locs hH hS => ?_)
  obtain ⟨M98, eM98⟩ : ∃ y : Mm, y = sP M91 114 a0 0 (mZ M84) := ⟨_, rfl⟩
  have hw := hw M98 eM98
  rw [← eM98] at hH
  have hE99 : Ext M91 M98 := by rw [eM98]; exact Ext.sP
  have hk100 := hE99.k hk95 (by decide)
  have hE := hE.tr hE99
  refine lv_aload_n hx hb dX0_init_86 rfl (lv_at hl 0 rfl) ?_
  have hE101 := Ext.new hH 8
  refine co_new S hK hH hS hA 7 8 (by decide) rfl q194 q195 q61 (by decide) (Nat.le_of_ble_eq_true rfl) (Nat.le_of_ble_eq_true rfl) dX0_init_87 (fun H hH hS => ?_)
  obtain ⟨M102, eM102⟩ : ∃ y : Mm, y = sN M98 8 := ⟨_, rfl⟩
  have hw := hw M102 eM102
  rw [← eM102] at hH hE101
  have hk103 := hE101.k hk100 (by decide)
  have hE := hE.tr hE101
  have hk104 : mK M102 (mZ M98) = 8 := by rw [eM102]; exact mK_new M98 8
  refine lv_dup hx hb dX0_init_90 rfl ?_
  refine co_callv (va_runIN (As := []) (rest := [.ref (mZ M98), .ref a0]) S (m7_init l g AD M102 (mZ M98) _ hw) ⟨va_cnB 0 hts (lw_meth q198) rfl rfl rfl (hK.2.2.2.1 _ q196 rfl) (hts _ q61) (by decide +kernel) ⟨Nat.le_of_ble_eq_true rfl, Nat.le_of_ble_eq_true rfl⟩, rfl, hts _ q197⟩ ⟨co_blind, co_pre hK hH hA hS⟩ rfl rfl hl.1 rfl (lv_room (Nat.le_of_ble_eq_true rfl)) dX0_init_91 ⟨(Nat.le_of_ble_eq_true rfl), (Nat.le_of_ble_eq_true rfl)⟩) hS (fun M105 H locs hw hH hE107 hS => ?_)
  have hk109 := hE107.k hk103 (by decide)
  have hk110 := hE107.k hk104 (by decide)
  have hk111 := hE107.k hk103 (by decide)
  have hE := hE.tr hE107
  refine co_putr S hK hH hS 0 15 115 (by decide) ⟨by decide, rfl, rfl, rfl, rfl⟩ (Or.inl q276) hk111 (by rw [hk110]; decide) ⟨rfl, rfl⟩ dX0_init_94 (fun H locs hH hS => ?_)
  obtain ⟨M112, eM112⟩ : ∃ y : Mm, y = sP M105 115 a0 0 (mZ M98) := ⟨_, rfl⟩
  have hw := hw M112 eM112
  rw [← eM112] at hH
  have hE113 : Ext M105 M112 := by rw [eM112]; exact Ext.sP
  have hk114 := hE113.k hk109 (by decide)
  have hE := hE.tr hE113
  refine lv_aload_n hx hb dX0_init_97 rfl (lv_at hl 0 rfl) ?_
  refine lv_iconst (v := 1) hx hb dX0_init_98 (by decide) ?_
  refine co_puti S hK hH hS 0 22 122 (by decide) ⟨by decide, rfl, rfl, rfl, rfl⟩ (Or.inl q283) hk114 ⟨rfl, rfl⟩ dX0_init_99 (fun H locs hH hS => ?_)
  obtain ⟨M115, eM115⟩ : ∃ y : Mm, y = sI M112 122 a0 0 1 := ⟨_, rfl⟩
  have hw := hw M115 eM115
  rw [← eM115] at hH
  have hE116 : Ext M112 M115 := by rw [eM115]; exact Ext.sI
  have hk117 := hE116.k hk114 (by decide)
  have hE := hE.tr hE116
  refine lv_aload_n hx hb dX0_init_102 rfl (lv_at hl 0 rfl) ?_
  have hE118 := Ext.new hH 4
  refine co_new S hK hH hS hA 3 4 (by decide) rfl q119 q120 q57 (by decide) (Nat.le_of_ble_eq_true rfl) (Nat.le_of_ble_eq_true rfl) dX0_init_103 (fun H hH hS => ?_)
  obtain ⟨M119, eM119⟩ : ∃ y : Mm, y = sN M115 4 := ⟨_, rfl⟩
  have hw := hw M119 eM119
  rw [← eM119] at hH hE118
  have hk120 := hE118.k hk117 (by decide)
  have hE := hE.tr hE118
  have hk121 : mK M119 (mZ M115) = 4 := by rw [eM119]; exact mK_new M115 4
  refine lv_dup hx hb dX0_init_106 rfl ?_
  refine co_callv (va_runI (As := []) (rest := [.ref (mZ M115), .ref a0]) S (m3_init l g AD M119 (mZ M115) _ hk121 hw) (cwI 0 hts (lw_meth q123) rfl rfl rfl (hts _ q57) (hts _ q121) (hts _ q122) rfl (by decide +kernel) ⟨Nat.le_of_ble_eq_true rfl, Nat.le_of_ble_eq_true rfl⟩) ⟨co_blind, co_pre hK hH hA hS⟩ rfl rfl hl.1 rfl (lv_room (Nat.le_of_ble_eq_true rfl)) dX0_init_107 ⟨(Nat.le_of_ble_eq_true rfl), (Nat.le_of_ble_eq_true rfl)⟩) hS (fun M122 H locs hw hH hE124 hS => ?_)
  have hk126 := hE124.k hk120 (by decide)
  have hk127 := hE124.k hk121 (by decide)
  have hk128 := hE124.k hk120 (by decide)
  have hE := hE.tr hE124
  refine co_putF S hin hK hH hS 0 25 125 (by decide) ⟨by decide, rfl, rfl, rfl, rfl⟩ rfl q286 hk128 (by rw [hk127]; decide) ⟨rfl, rfl⟩ dX0_init_110 (fun H locs hH hS => ?_)
  obtain ⟨M129, eM129⟩ : ∃ y : Mm, y = sP M122 125 a0 0 (mZ M115) := ⟨_, rfl⟩
  have hw := hw M129 eM129
  rw [← eM129] at hH
  have hE130 : Ext M122 M129 := by rw [eM129]; exact Ext.sP
  have hk131 := hE130.k hk126 (by decide)
  have hE := hE.tr hE130
  refine lv_aload_n hx hb dX0_init_113 rfl (lv_at hl 0 rfl) ?_
  have hE132 := Ext.new hH 6
  refine co_new S hK hH hS hA 5 6 (by decide) rfl q204 q133 q59 (by decide) (Nat.le_of_ble_eq_true rfl) (Nat.le_of_ble_eq_true rfl) dX0_init_114 (fun H hH hS => ?_)
  obtain ⟨M133, eM133⟩ : ∃ y : Mm, y = sN M129 6 := ⟨_, rfl⟩
  have hw := hw M133 eM133
  rw [← eM133] at hH hE132
  have hk134 := hE132.k hk131 (by decide)
  have hE := hE.tr hE132
  have hk135 : mK M133 (mZ M129) = 6 := by rw [eM133]; exact mK_new M129 6
  refine lv_dup hx hb dX0_init_117 rfl ?_
  refine co_callv (va_runI (As := []) (rest := [.ref (mZ M129), .ref a0]) S (m5_init l g AD M133 (mZ M129) _ hk135 hw) (cwI 0 hts (lw_meth q136) rfl rfl rfl (hts _ q59) (hts _ q205) (hts _ q135) rfl (by decide +kernel) ⟨Nat.le_of_ble_eq_true rfl, Nat.le_of_ble_eq_true rfl⟩) ⟨co_blind, co_pre hK hH hA hS⟩ rfl rfl hl.1 rfl (lv_room (Nat.le_of_ble_eq_true rfl)) dX0_init_118 ⟨(Nat.le_of_ble_eq_true rfl), (Nat.le_of_ble_eq_true rfl)⟩) hS (fun M136 H locs hw hH hE138 hS => ?_)
  have hk140 := hE138.k hk134 (by decide)
  have hk141 := hE138.k hk135 (by decide)
  have hk142 := hE138.k hk134 (by decide)
  have hE := hE.tr hE138
  refine co_putF S hin hK hH hS 0 26 126 (by decide) ⟨by decide, rfl, rfl, rfl, rfl⟩ rfl q287 hk142 (by rw [hk141]; decide) ⟨rfl, rfl⟩ dX0_init_121 (fun H locs hH hS => ?_)
  obtain ⟨M143, eM143⟩ : ∃ y : Mm, y = sP M136 126 a0 0 (mZ M129) := ⟨_, rfl⟩
  have hw := hw M143 eM143
  rw [← eM143] at hH
  have hE144 : Ext M136 M143 := by rw [eM143]; exact Ext.sP
  have hk145 := hE144.k hk140 (by decide)
  have hE := hE.tr hE144
  refine lv_aload_n hx hb dX0_init_124 rfl (lv_at hl 0 rfl) ?_
  refine lv_bipush (v := 60) hx hb dX0_init_125 (by decide) ?_
  have hE146 := Ext.new hH 28
  refine co_newq S hK hH hS hA 8 28 ⟨by decide, rfl, rfl⟩ q206 hK.2.2.2.2.2.2.2 (n := 60) ⟨by decide, by decide⟩ (by decide) (Nat.le_of_ble_eq_true rfl) (Nat.le_of_ble_eq_true rfl) dX0_init_127 (fun H hH hS => ?_)
  obtain ⟨M147, eM147⟩ : ∃ y : Mm, y = sN M143 28 := ⟨_, rfl⟩
  have hw := hw M147 eM147
  rw [← eM147] at hH hE146
  have hk148 := hE146.k hk145 (by decide)
  have hE := hE.tr hE146
  have hk149 : mK M147 (mZ M143) = 28 := by rw [eM147]; exact mK_new M143 28
  refine co_putF S hin hK hH hS 0 27 127 (by decide) ⟨by decide, rfl, rfl, rfl, rfl⟩ rfl q288 hk148 (by rw [hk149]; decide) ⟨rfl, rfl⟩ dX0_init_130 (fun H locs hH hS => ?_)
  obtain ⟨M150, eM150⟩ : ∃ y : Mm, y = sP M147 127 a0 0 (mZ M143) := ⟨_, rfl⟩
  have hw := hw M150 eM150
  rw [← eM150] at hH
  have hE151 : Ext M147 M150 := by rw [eM150]; exact Ext.sP
  have hk152 := hE151.k hk148 (by decide)
  have hE := hE.tr hE151
  refine lv_aload_n hx hb dX0_init_133 rfl (lv_at hl 0 rfl) ?_
  refine lv_iconst (v := 1) hx hb dX0_init_134 (by decide) ?_
  refine co_puti S hK hH hS 0 29 129 (by decide) ⟨by decide, rfl, rfl, rfl, rfl⟩ (Or.inl q290) hk152 ⟨rfl, rfl⟩ dX0_init_135 (fun H locs hH hS => ?_)
  obtain ⟨M153, eM153⟩ : ∃ y : Mm, y = sI M150 129 a0 0 1 := ⟨_, rfl⟩
  have hw := hw M153 eM153
  rw [← eM153] at hH
  have hE154 : Ext M150 M153 := by rw [eM153]; exact Ext.sI
  have hk155 := hE154.k hk152 (by decide)
  have hE := hE.tr hE154
  refine lv_aload_n hx hb dX0_init_138 rfl (lv_at hl 0 rfl) ?_
  have hE156 := Ext.new hH 6
  refine co_new S hK hH hS hA 5 6 (by decide) rfl q204 q133 q59 (by decide) (Nat.le_of_ble_eq_true rfl) (Nat.le_of_ble_eq_true rfl) dX0_init_139 (fun H hH hS => ?_)
  obtain ⟨M157, eM157⟩ : ∃ y : Mm, y = sN M153 6 := ⟨_, rfl⟩
  have hw := hw M157 eM157
  rw [← eM157] at hH hE156
  have hk158 := hE156.k hk155 (by decide)
  have hE := hE.tr hE156
  have hk159 : mK M157 (mZ M153) = 6 := by rw [eM157]; exact mK_new M153 6
  refine lv_dup hx hb dX0_init_142 rfl ?_
  refine co_callv (va_runI (As := []) (rest := [.ref (mZ M153), .ref a0]) S (m5_init l g AD M157 (mZ M153) _ hk159 hw) (cwI 0 hts (lw_meth q136) rfl rfl rfl (hts _ q59) (hts _ q205) (hts _ q135) rfl (by decide +kernel) ⟨Nat.le_of_ble_eq_true rfl, Nat.le_of_ble_eq_true rfl⟩) ⟨co_blind, co_pre hK hH hA hS⟩ rfl rfl hl.1 rfl (lv_room (Nat.le_of_ble_eq_true rfl)) dX0_init_143 ⟨(Nat.le_of_ble_eq_true rfl), (Nat.le_of_ble_eq_true rfl)⟩) hS (fun M160 H locs hw hH hE162 hS => ?_)
  have hk164 := hE162.k hk158 (by decide)
  have hk165 := hE162.k hk159 (by decide)
  have hk166 := hE162.k hk158 (by decide)
  have hE := hE.tr hE162
  refine co_putF S hin hK hH hS 0 31 131 (by decide) ⟨by decide, rfl, rfl, rfl, rfl⟩ rfl q292 hk166 (by rw [hk165]; decide) ⟨rfl, rfl⟩ dX0_init_146 (fun H locs hH hS => ?_)
  obtain ⟨M167, eM167⟩ : ∃ y : Mm, y = sP M160 131 a0 0 (mZ M153) := ⟨_, rfl⟩
  have hw := hw M167 eM167
  rw [← eM167] at hH
  have hE168 : Ext M160 M167 := by rw [eM167]; exact Ext.sP
  have hk169 := hE168.k hk164 (by decide)
  have hE := hE.tr hE168
  refine lv_aload_n hx hb dX0_init_149 rfl (lv_at hl 0 rfl) ?_
  have hE170 := Ext.new hH 6
  refine co_new S hK hH hS hA 5 6 (by decide) rfl q204 q133 q59 (by decide) (Nat.le_of_ble_eq_true rfl) (Nat.le_of_ble_eq_true rfl) dX0_init_150 (fun H hH hS => ?_)
  obtain ⟨M171, eM171⟩ : ∃ y : Mm, y = sN M167 6 := ⟨_, rfl⟩
  have hw := hw M171 eM171
  rw [← eM171] at hH hE170
  have hk172 := hE170.k hk169 (by decide)
  have hE := hE.tr hE170
  have hk173 : mK M171 (mZ M167) = 6 := by rw [eM171]; exact mK_new M167 6
  refine lv_dup hx hb dX0_init_153 rfl ?_
  refine co_callv (va_runI (As := []) (rest := [.ref (mZ M167), .ref a0]) S (m5_init l g AD M171 (mZ M167) _ hk173 hw) (cwI 0 hts (lw_meth q136) rfl rfl rfl (hts _ q59) (hts _ q205) (hts _ q135) rfl (by decide +kernel) ⟨Nat.le_of_ble_eq_true rfl, Nat.le_of_ble_eq_true rfl⟩) ⟨co_blind, co_pre hK hH hA hS⟩ rfl rfl hl.1 rfl (lv_room (Nat.le_of_ble_eq_true rfl)) dX0_init_154 ⟨(Nat.le_of_ble_eq_true rfl), (Nat.le_of_ble_eq_true rfl)⟩) hS (fun M174 H locs hw hH hE176 hS => ?_)
  have hk178 := hE176.k hk172 (by decide)
  have hk179 := hE176.k hk173 (by decide)
  have hk180 := hE176.k hk172 (by decide)
  have hE := hE.tr hE176
  refine co_putF S hin hK hH hS 0 32 132 (by decide) ⟨by decide, rfl, rfl, rfl, rfl⟩ rfl q293 hk180 (by rw [hk179]; decide) ⟨rfl, rfl⟩ dX0_init_157 (fun H locs hH hS => ?_)
  obtain ⟨M181, eM181⟩ : ∃ y : Mm, y = sP M174 132 a0 0 (mZ M167) := ⟨_, rfl⟩
  have hw := hw M181 eM181
  rw [← eM181] at hH
  have hE182 : Ext M174 M181 := by rw [eM181]; exact Ext.sP
  have hk183 := hE182.k hk178 (by decide)
  have hE := hE.tr hE182
  refine lv_iconst (v := 0) hx hb dX0_init_160 (by decide) ?_
  refine lv_istore_n (lv' := [(1, .int 0), (0, .ref a0)]) hx hb dX0_init_161 rfl hl (by decide) rfl (fun ls hl => ?_)
  refine r0_init_162 S hr hlocks hK hA hin  61 _ _ (by decide) (by decide) _ _ _ hw hE hk183 _ _ hH hS _ (lv_sub hl [1, 0] rfl)
/-! FarTypewriter.kept(II)I -/
abbrev rm0_kept : Room := { frames := 0, cells := 0, slots := 0, locals := 0 }
def w0_kept_26 (post : Int32 → Mm → Prop)  (M : Mm) (x2 : Int32) (b0 : Nat) : Prop :=
  (x2 < 0 → post (-1) M) ∧ (¬ x2 < 0 → (x2 < (mI M 401 b0 0) → mK M (mP M 400 b0 0) = 25 ∧ (vp_in x2 32 ∧ (mK M (mP M 25 (mP M 400 b0 0) x2.toNatClampNeg) = 5 ∧ (post (mI M 501 (mP M 25 (mP M 400 b0 0) x2.toNatClampNeg) 0) M)))) ∧ (¬ x2 < (mI M 401 b0 0) → post (-1) M))
set_option maxHeartbeats 4000000 in
set_option maxRecDepth 100000 in
theorem r0_kept_26 {p : Program} {l : Launch} {e : Env} {s : State} {m : MethodId} {args : Array Value} {below : List Frame} {meth : Method} {c : Code} {g : CG} {AD : Nat → Prop} {M0 : Mm} (S : CallFix p m c cX0_kept 4 s args lw_all RX0) (hr : meth.sig.returnType = (some .int)) (hlocks : meth.locks = false) (hK : KC g s) (hA : ∀ q, s.heap.size ≤ q → AD q) {post : Int32 → Mm → Prop}  : ∀ (M : Mm) (x2 : Int32) (b0 : Nat), w0_kept_26 post  M x2 b0 → Ext M0 M → mK M b0 = 4 → ∀ (H : Heap) (locs : List Loc), HC g AD M H → va_S AD s.heap H locs → ∀ (ls : Array Slot), lv_has ls 4 [(2, .int x2)] → W p l e rm0_kept s m args below meth c H locs 0 0 (MQ below (CQi g AD M0 post) args s 0 0 AD) (F0 m 26 ls [.ref b0]) := by
  have hx := S.1
  have hb := S.2.1
  have hown := S.2.2.2.1
  have hts := S.2.2.2.2
  intro M x2 b0 hw hE hk_b0 H locs hH hS ls hl
  unfold w0_kept_26 at hw
  refine lv_astore_n (lv' := [(3, .ref b0), (2, .int x2)]) hx hb dX0_kept_26 rfl hl (by decide) rfl (fun ls hl => ?_)
  refine lv_iload_n hx hb dX0_kept_27 rfl (lv_at hl 1 rfl) ?_
  refine lv_if_lt (tgt := 39) hx hb dX0_kept_28 (by decide) (fun c5 => ?_) (fun c5 => ?_)
  · have hw := hw.1 c5
    refine lv_iconst (v := (-1)) hx hb dX0_kept_39 (by decide) ?_
    refine lv_goto (tgt := 52) hx hb dX0_kept_40 (by decide) ?_
    exact co_iret S hr hlocks hH hE hS hw dX0_kept_52
  · have hw := hw.2 c5
    refine lv_iload_n hx hb dX0_kept_31 rfl (lv_at hl 1 rfl) ?_
    refine lv_aload_n hx hb dX0_kept_32 rfl (lv_at hl 0 rfl) ?_
    refine co_geti S hK hH 3 1 401 (by decide) ⟨by decide, rfl, rfl, rfl⟩ (Or.inr ⟨_, q188⟩) hk_b0 dX0_kept_33 ?_
    refine lv_icmp_lt (tgt := 43) hx hb dX0_kept_36 (by decide) (fun c6 => ?_) (fun c6 => ?_)
    · have hw := hw.1 c6
      refine lv_aload_n hx hb dX0_kept_43 rfl (lv_at hl 0 rfl) ?_
      have hk7 := hw.1
      have hw := hw.2
      refine co_getr S hK hH 3 0 400 (by decide) ⟨by decide, rfl, rfl, rfl⟩ (Or.inr ⟨_, q186⟩) hk_b0 (by rw [hk7]; decide) dX0_kept_44 ?_
      refine lv_iload_n hx hb dX0_kept_47 rfl (lv_at hl 1 rfl) ?_
      have hin8 := hw.1
      have hw := hw.2
      have hk9 := hw.1
      have hw := hw.2
      refine co_aald S hK hH 5 25 ⟨by decide, rfl, rfl⟩ hk7 hin8 (by rw [hk9]; decide) dX0_kept_48 ?_
      refine co_geti S hK hH 4 1 501 (by decide) ⟨by decide, rfl, rfl, rfl⟩ (Or.inr ⟨_, q175⟩) hk9 dX0_kept_49 ?_
      exact co_iret S hr hlocks hH hE hS hw dX0_kept_52
    · have hw := hw.2 c6
      refine lv_iconst (v := (-1)) hx hb dX0_kept_39 (by decide) ?_
      refine lv_goto (tgt := 52) hx hb dX0_kept_40 (by decide) ?_
      exact co_iret S hr hlocks hH hE hS hw dX0_kept_52
def w0_kept (post : Int32 → Mm → Prop) (M : Mm) (a0 : Nat) (x1 : Int32) (x2 : Int32) : Prop :=
  (x1 < 0 → post (-1) M) ∧ (¬ x1 < 0 → (x1 ≤ 1 → (x1 = 0 → mK M (mP M 114 a0 0) = 4 ∧ (w0_kept_26 post M x2 (mP M 114 a0 0))) ∧ (¬ x1 = 0 → mK M (mP M 125 a0 0) = 4 ∧ (w0_kept_26 post M x2 (mP M 125 a0 0)))) ∧ (¬ x1 ≤ 1 → post (-1) M))
set_option maxHeartbeats 4000000 in
set_option maxRecDepth 100000 in
theorem m0_kept (l : Launch) (g : CG) (AD : Nat → Prop) (M : Mm) (a0 : Nat) (x1 : Int32) (x2 : Int32) (post : Int32 → Mm → Prop) (hk_a0 : mK M a0 = 1) (hw : w0_kept post M a0 x1 x2) : Met l yX0_kept (ws_ yX0_kept cX0_kept 4 (some .int)) rm0_kept (CPc g AD M [.ref a0, .int x1, .int x2]) (CQi g AD M post) 0 0 AD := by
  refine Met.ofW (cc := cX0_kept) (maxL := 4) (ret := (some .int)) (by decide) rfl ?_
  intro p e s m args below meth c s₁ B hml hv
  obtain ⟨rfl, hK, hH, hA⟩ := hv
  have hx := B.exec
  have hb := B.bytes
  have hr : meth.sig.returnType = (some .int) := B.returns
  have hts := atoms_spec (ws := ws_ yX0_kept cX0_kept 4 (some .int)) B.pre
  have hts : ∀ w ∈ lw_all, w.before _ s = true := fun w h => hts w (List.mem_cons_of_mem _ h)
  have hown : s.vm.findClass RX0 = some m.cls := findClass_of_methodNamed B.named
  have hlocks : meth.locks = false := B.notSynchronized
  have S : CallFix p m c cX0_kept 4 s _ lw_all RX0 := ⟨hx, hb, hml, hown, hts⟩
  have hS : va_S AD s.heap s.heap [] := va_S.rf
  have hE : Ext M M := Ext.rf
  have hl := lv_entry ([.ref a0, .int x1, .int x2]) (n := 4) (Nat.le_of_ble_eq_true rfl)
  rw [lg_entry_eq]
  generalize (lg_sl ([.ref a0, .int x1, .int x2]) ++ List.replicate (4 - (lg_sl ([.ref a0, .int x1, .int x2])).length) Slot.unset).toArray = ls at hl ⊢
  have hl : lv_has ls 4 [(0, .ref a0), (1, .int x1), (2, .int x2)] := hl
  unfold w0_kept at hw
  refine lv_iload_n hx hb dX0_kept_0 rfl (lv_at hl 1 rfl) ?_
  refine lv_if_lt (tgt := 9) hx hb dX0_kept_1 (by decide) (fun c1 => ?_) (fun c1 => ?_)
  · have hw := hw.1 c1
    refine lv_iconst (v := (-1)) hx hb dX0_kept_9 (by decide) ?_
    exact co_iret S hr hlocks hH hE hS hw dX0_kept_10
  · have hw := hw.2 c1
    refine lv_iload_n hx hb dX0_kept_4 rfl (lv_at hl 1 rfl) ?_
    refine lv_iconst (v := 1) hx hb dX0_kept_5 (by decide) ?_
    refine lv_icmp_le (tgt := 11) hx hb dX0_kept_6 (by decide) (fun c2 => ?_) (fun c2 => ?_)
    · have hw := hw.1 c2
      refine lv_iload_n hx hb dX0_kept_11 rfl (lv_at hl 1 rfl) ?_
      refine lv_if_ne (tgt := 22) hx hb dX0_kept_12 (by decide) (fun c3 => ?_) (fun c3 => ?_)
      · have hw := hw.2 c3
        refine lv_aload_n hx hb dX0_kept_22 rfl (lv_at hl 0 rfl) ?_
        have hk4 := hw.1
        have hw := hw.2
        refine co_getr S hK hH 0 25 125 (by decide) ⟨by decide, rfl, rfl, rfl⟩ (Or.inl q286) hk_a0 (by rw [hk4]; decide) dX0_kept_23 ?_
        exact r0_kept_26 S hr hlocks hK hA  _ _ _ hw hE hk4 _ _ hH hS _ (lv_sub hl [2] rfl)
      · have hw := hw.1 c3
        refine lv_aload_n hx hb dX0_kept_15 rfl (lv_at hl 0 rfl) ?_
        have hk10 := hw.1
        have hw := hw.2
        refine co_getr S hK hH 0 14 114 (by decide) ⟨by decide, rfl, rfl, rfl⟩ (Or.inl q275) hk_a0 (by rw [hk10]; decide) dX0_kept_16 ?_
        refine lv_goto (tgt := 26) hx hb dX0_kept_19 (by decide) ?_
        exact r0_kept_26 S hr hlocks hK hA  _ _ _ hw hE hk10 _ _ hH hS _ (lv_sub hl [2] rfl)
    · have hw := hw.2 c2
      refine lv_iconst (v := (-1)) hx hb dX0_kept_9 (by decide) ?_
      exact co_iret S hr hlocks hH hE hS hw dX0_kept_10
/-! FarTypewriter.key(I)I -/
abbrev rm0_key : Room := { frames := 4, cells := 0, slots := 0, locals := 269 }
def w0_key_34 (post : Int32 → Mm → Prop)  (M : Mm) (a0 : Nat) (x1 : Int32) (t0 : Int32) : Prop :=
  (t0 = 0 → post (-1) M) ∧ (¬ t0 = 0 → ((mI M 107 a0 0) = 1000 → post (-1) M) ∧ (¬ (mI M 107 a0 0) = 1000 → w0_guess (fun (M9 : Mm) => mK M9 (mP M9 106 a0 0) = 23 ∧ (vp_in (mI M9 107 a0 0) 1000 ∧ (∀ M16 : Mm, M16 = sI M9 23 (mP M9 106 a0 0) (mI M9 107 a0 0).toNatClampNeg (x1.toInt8.toInt32).toInt8.toInt32 → (∀ M19 : Mm, M19 = sI M16 107 a0 0 ((mI M16 107 a0 0) + 1) → (post (mI M19 107 a0 0) M19))))) M a0 x1))
set_option maxHeartbeats 4000000 in
set_option maxRecDepth 100000 in
theorem r0_key_34 {p : Program} {l : Launch} {e : Env} {s : State} {m : MethodId} {args : Array Value} {below : List Frame} {meth : Method} {c : Code} {g : CG} {AD : Nat → Prop} {M0 : Mm} (S : CallFix p m c cX0_key 3 s args lw_all RX0) (hr : meth.sig.returnType = (some .int)) (hlocks : meth.locks = false) (hK : KC g s) (hA : ∀ q, s.heap.size ≤ q → AD q) {post : Int32 → Mm → Prop}  : ∀ (M : Mm) (a0 : Nat) (x1 : Int32) (t0 : Int32), w0_key_34 post  M a0 x1 t0 → Ext M0 M → mK M a0 = 1 → ∀ (H : Heap) (locs : List Loc), HC g AD M H → va_S AD s.heap H locs → ∀ (ls : Array Slot), lv_has ls 3 [(0, .ref a0), (1, .int x1)] → W p l e rm0_key s m args below meth c H locs 0 0 (MQ below (CQi g AD M0 post) args s 0 0 AD) (F0 m 34 ls [.int t0]) := by
  have hx := S.1
  have hb := S.2.1
  have hown := S.2.2.2.1
  have hts := S.2.2.2.2
  intro M a0 x1 t0 hw hE hk_a0 H locs hH hS ls hl
  unfold w0_key_34 at hw
  refine lv_istore_n (lv' := [(2, .int t0), (0, .ref a0), (1, .int x1)]) hx hb dX0_key_34 rfl hl (by decide) rfl (fun ls hl => ?_)
  refine lv_iload_n hx hb dX0_key_35 rfl (lv_at hl 0 rfl) ?_
  refine lv_if_eq (tgt := 49) hx hb dX0_key_36 (by decide) (fun c7 => ?_) (fun c7 => ?_)
  · have hw := hw.1 c7
    refine lv_iconst (v := (-1)) hx hb dX0_key_49 (by decide) ?_
    exact co_iret S hr hlocks hH hE hS hw dX0_key_50
  · have hw := hw.2 c7
    refine lv_aload_n hx hb dX0_key_39 rfl (lv_at hl 1 rfl) ?_
    refine co_geti S hK hH 0 7 107 (by decide) ⟨by decide, rfl, rfl, rfl⟩ (Or.inl q268) hk_a0 dX0_key_40 ?_
    refine lv_sipush (v := 1000) hx hb dX0_key_43 (by decide) ?_
    refine lv_icmp_ne (tgt := 51) hx hb dX0_key_46 (by decide) (fun c8 => ?_) (fun c8 => ?_)
    · have hw := hw.2 c8
      refine lv_aload_n hx hb dX0_key_51 rfl (lv_at hl 1 rfl) ?_
      refine lv_iload_n hx hb dX0_key_52 rfl (lv_at hl 2 rfl) ?_
      refine co_callv (va_runV (As := [.int x1]) (rest := []) S (m0_guess l g AD M a0 x1 _ hk_a0 hw) (cwV 1 hts (lw_V q518 q520 qs2 q54 q521) rfl rfl rfl (by decide +kernel) ⟨Nat.le_of_ble_eq_true rfl, Nat.le_of_ble_eq_true rfl⟩) ⟨co_blind, co_recv hK hH (c := 0) (by decide) hk_a0, co_pre hK hH hA hS⟩ rfl rfl hl.1 rfl (lv_room (Nat.le_of_ble_eq_true rfl)) dX0_key_53 ⟨Nat.le_refl _, Nat.le_refl _⟩) hS (fun M9 H locs hw hH hE11 hS => ?_)
      have hk13 := hE11.k hk_a0 (by decide)
      have hE := hE.tr hE11
      refine lv_aload_n hx hb dX0_key_56 rfl (lv_at hl 1 rfl) ?_
      have hk14 := hw.1
      have hw := hw.2
      refine co_getr S hK hH 0 6 106 (by decide) ⟨by decide, rfl, rfl, rfl⟩ (Or.inl q267) hk13 (by rw [hk14]; decide) dX0_key_57 ?_
      refine lv_aload_n hx hb dX0_key_60 rfl (lv_at hl 1 rfl) ?_
      refine co_geti S hK hH 0 7 107 (by decide) ⟨by decide, rfl, rfl, rfl⟩ (Or.inl q268) hk13 dX0_key_61 ?_
      refine lv_iload_n hx hb dX0_key_64 rfl (lv_at hl 2 rfl) ?_
      refine lv_i2b (v := x1.toInt8.toInt32) hx hb dX0_key_65 rfl ?_
      have hin15 := hw.1
      have hw := hw.2
      refine co_bast S hK hH hS 3 23 ⟨by decide, rfl, rfl⟩ hk14 hin15 dX0_key_66 (fun H locs hH hS => ?_)
      obtain ⟨M16, eM16⟩ : ∃ y : Mm, y = sI M9 23 (mP M9 106 a0 0) (mI M9 107 a0 0).toNatClampNeg (x1.toInt8.toInt32).toInt8.toInt32 := ⟨_, rfl⟩
      have hw := hw M16 eM16
      rw [← eM16] at hH
      have hE17 : Ext M9 M16 := by rw [eM16]; exact Ext.sI
      have hk18 := hE17.k hk13 (by decide)
      have hE := hE.tr hE17
      refine lv_aload_n hx hb dX0_key_67 rfl (lv_at hl 1 rfl) ?_
      refine lv_dup hx hb dX0_key_68 rfl ?_
      refine co_geti S hK hH 0 7 107 (by decide) ⟨by decide, rfl, rfl, rfl⟩ (Or.inl q268) hk18 dX0_key_69 ?_
      refine lv_iconst (v := 1) hx hb dX0_key_72 (by decide) ?_
      refine lv_iadd hx hb dX0_key_73 ?_
      refine co_puti S hK hH hS 0 7 107 (by decide) ⟨by decide, rfl, rfl, rfl, rfl⟩ (Or.inl q268) hk18 ⟨rfl, rfl⟩ dX0_key_74 (fun H locs hH hS => ?_)
      obtain ⟨M19, eM19⟩ : ∃ y : Mm, y = sI M16 107 a0 0 ((mI M16 107 a0 0) + 1) := ⟨_, rfl⟩
      have hw := hw M19 eM19
      rw [← eM19] at hH
      have hE20 : Ext M16 M19 := by rw [eM19]; exact Ext.sI
      have hk21 := hE20.k hk18 (by decide)
      have hE := hE.tr hE20
      refine lv_aload_n hx hb dX0_key_77 rfl (lv_at hl 1 rfl) ?_
      refine co_geti S hK hH 0 7 107 (by decide) ⟨by decide, rfl, rfl, rfl⟩ (Or.inl q268) hk21 dX0_key_78 ?_
      exact co_iret S hr hlocks hH hE hS hw dX0_key_81
    · have hw := hw.1 c8
      refine lv_iconst (v := (-1)) hx hb dX0_key_49 (by decide) ?_
      exact co_iret S hr hlocks hH hE hS hw dX0_key_50
def w0_key_29 (post : Int32 → Mm → Prop)  (M : Mm) (a0 : Nat) (x1 : Int32) : Prop :=
  w0_key_34 post M a0 x1 1
set_option maxHeartbeats 4000000 in
set_option maxRecDepth 100000 in
theorem r0_key_29 {p : Program} {l : Launch} {e : Env} {s : State} {m : MethodId} {args : Array Value} {below : List Frame} {meth : Method} {c : Code} {g : CG} {AD : Nat → Prop} {M0 : Mm} (S : CallFix p m c cX0_key 3 s args lw_all RX0) (hr : meth.sig.returnType = (some .int)) (hlocks : meth.locks = false) (hK : KC g s) (hA : ∀ q, s.heap.size ≤ q → AD q) {post : Int32 → Mm → Prop}  : ∀ (M : Mm) (a0 : Nat) (x1 : Int32), w0_key_29 post  M a0 x1 → Ext M0 M → mK M a0 = 1 → ∀ (H : Heap) (locs : List Loc), HC g AD M H → va_S AD s.heap H locs → ∀ (ls : Array Slot), lv_has ls 3 [(0, .ref a0), (1, .int x1)] → W p l e rm0_key s m args below meth c H locs 0 0 (MQ below (CQi g AD M0 post) args s 0 0 AD) (F0 m 29 ls []) := by
  have hx := S.1
  have hb := S.2.1
  have hown := S.2.2.2.1
  have hts := S.2.2.2.2
  intro M a0 x1 hw hE hk_a0 H locs hH hS ls hl
  unfold w0_key_29 at hw
  refine lv_iconst (v := 1) hx hb dX0_key_29 (by decide) ?_
  refine lv_goto (tgt := 34) hx hb dX0_key_30 (by decide) ?_
  exact r0_key_34 S hr hlocks hK hA  _ _ _ _ hw hE hk_a0 _ _ hH hS _ (lv_sub hl [0, 1] rfl)
def w0_key_33 (post : Int32 → Mm → Prop)  (M : Mm) (a0 : Nat) (x1 : Int32) : Prop :=
  w0_key_34 post M a0 x1 0
set_option maxHeartbeats 4000000 in
set_option maxRecDepth 100000 in
theorem r0_key_33 {p : Program} {l : Launch} {e : Env} {s : State} {m : MethodId} {args : Array Value} {below : List Frame} {meth : Method} {c : Code} {g : CG} {AD : Nat → Prop} {M0 : Mm} (S : CallFix p m c cX0_key 3 s args lw_all RX0) (hr : meth.sig.returnType = (some .int)) (hlocks : meth.locks = false) (hK : KC g s) (hA : ∀ q, s.heap.size ≤ q → AD q) {post : Int32 → Mm → Prop}  : ∀ (M : Mm) (a0 : Nat) (x1 : Int32), w0_key_33 post  M a0 x1 → Ext M0 M → mK M a0 = 1 → ∀ (H : Heap) (locs : List Loc), HC g AD M H → va_S AD s.heap H locs → ∀ (ls : Array Slot), lv_has ls 3 [(0, .ref a0), (1, .int x1)] → W p l e rm0_key s m args below meth c H locs 0 0 (MQ below (CQi g AD M0 post) args s 0 0 AD) (F0 m 33 ls []) := by
  have hx := S.1
  have hb := S.2.1
  have hown := S.2.2.2.1
  have hts := S.2.2.2.2
  intro M a0 x1 hw hE hk_a0 H locs hH hS ls hl
  unfold w0_key_33 at hw
  refine lv_iconst (v := 0) hx hb dX0_key_33 (by decide) ?_
  exact r0_key_34 S hr hlocks hK hA  _ _ _ _ hw hE hk_a0 _ _ hH hS _ (lv_sub hl [0, 1] rfl)
def w0_key (post : Int32 → Mm → Prop) (M : Mm) (a0 : Nat) (x1 : Int32) : Prop :=
  w0_isLetter (fun (r2 : Int32) (M1 : Mm) => (r2 = 0 → (x1 = 8 → w0_key_29 post M1 a0 x1) ∧ (¬ x1 = 8 → (x1 = 13 → w0_key_29 post M1 a0 x1) ∧ (¬ x1 = 13 → (x1 < 1 → w0_key_33 post M1 a0 x1) ∧ (¬ x1 < 1 → (4 < x1 → w0_key_33 post M1 a0 x1) ∧ (¬ 4 < x1 → w0_key_29 post M1 a0 x1))))) ∧ (¬ r2 = 0 → w0_key_29 post M1 a0 x1)) M x1
set_option maxHeartbeats 4000000 in
set_option maxRecDepth 100000 in
theorem m0_key (l : Launch) (g : CG) (AD : Nat → Prop) (M : Mm) (a0 : Nat) (x1 : Int32) (post : Int32 → Mm → Prop) (hk_a0 : mK M a0 = 1) (hw : w0_key post M a0 x1) : Met l yX0_key (ws_ yX0_key cX0_key 3 (some .int)) rm0_key (CPc g AD M [.ref a0, .int x1]) (CQi g AD M post) 0 0 AD := by
  refine Met.ofW (cc := cX0_key) (maxL := 3) (ret := (some .int)) (by decide) rfl ?_
  intro p e s m args below meth c s₁ B hml hv
  obtain ⟨rfl, hK, hH, hA⟩ := hv
  have hx := B.exec
  have hb := B.bytes
  have hr : meth.sig.returnType = (some .int) := B.returns
  have hts := atoms_spec (ws := ws_ yX0_key cX0_key 3 (some .int)) B.pre
  have hts : ∀ w ∈ lw_all, w.before _ s = true := fun w h => hts w (List.mem_cons_of_mem _ h)
  have hown : s.vm.findClass RX0 = some m.cls := findClass_of_methodNamed B.named
  have hlocks : meth.locks = false := B.notSynchronized
  have S : CallFix p m c cX0_key 3 s _ lw_all RX0 := ⟨hx, hb, hml, hown, hts⟩
  have hS : va_S AD s.heap s.heap [] := va_S.rf
  have hE : Ext M M := Ext.rf
  have hl := lv_entry ([.ref a0, .int x1]) (n := 3) (Nat.le_of_ble_eq_true rfl)
  rw [lg_entry_eq]
  generalize (lg_sl ([.ref a0, .int x1]) ++ List.replicate (3 - (lg_sl ([.ref a0, .int x1])).length) Slot.unset).toArray = ls at hl ⊢
  have hl : lv_has ls 3 [(0, .ref a0), (1, .int x1)] := hl
  unfold w0_key at hw
  refine lv_iload_n hx hb dX0_key_0 rfl (lv_at hl 1 rfl) ?_
  refine co_calli (va_runS (As := [.int x1]) (rest := []) S (m0_isLetter l g AD M x1 _ hw) (va_cwS 1 hts (lw_S q400 q401 q54 q402) rfl rfl rfl (by decide +kernel) ⟨Nat.le_of_ble_eq_true rfl, Nat.le_of_ble_eq_true rfl⟩) ⟨co_blind, co_pre hK hH hA hS⟩ rfl rfl hl.1 rfl (lv_room (Nat.le_of_ble_eq_true rfl)) dX0_key_1 ⟨Nat.le_refl _, Nat.le_refl _⟩) hS (fun r2 M1 H locs hw hH hE3 hS => ?_)
  have hk5 := hE3.k hk_a0 (by decide)
  have hE := hE.tr hE3
  refine lv_if_ne (tgt := 29) hx hb dX0_key_4 (by decide) (fun c6 => ?_) (fun c6 => ?_)
  · have hw := hw.2 c6
    exact r0_key_29 S hr hlocks hK hA  _ _ _ hw hE hk5 _ _ hH hS _ (lv_sub hl [0, 1] rfl)
  · have hw := hw.1 c6
    refine lv_iload_n hx hb dX0_key_7 rfl (lv_at hl 1 rfl) ?_
    refine lv_bipush (v := 8) hx hb dX0_key_8 (by decide) ?_
    refine lv_icmp_eq (tgt := 29) hx hb dX0_key_10 (by decide) (fun c22 => ?_) (fun c22 => ?_)
    · have hw := hw.1 c22
      exact r0_key_29 S hr hlocks hK hA  _ _ _ hw hE hk5 _ _ hH hS _ (lv_sub hl [0, 1] rfl)
    · have hw := hw.2 c22
      refine lv_iload_n hx hb dX0_key_13 rfl (lv_at hl 1 rfl) ?_
      refine lv_bipush (v := 13) hx hb dX0_key_14 (by decide) ?_
      refine lv_icmp_eq (tgt := 29) hx hb dX0_key_16 (by decide) (fun c23 => ?_) (fun c23 => ?_)
      · have hw := hw.1 c23
        exact r0_key_29 S hr hlocks hK hA  _ _ _ hw hE hk5 _ _ hH hS _ (lv_sub hl [0, 1] rfl)
      · have hw := hw.2 c23
        refine lv_iload_n hx hb dX0_key_19 rfl (lv_at hl 1 rfl) ?_
        refine lv_iconst (v := 1) hx hb dX0_key_20 (by decide) ?_
        refine lv_icmp_lt (tgt := 33) hx hb dX0_key_21 (by decide) (fun c24 => ?_) (fun c24 => ?_)
        · have hw := hw.1 c24
          exact r0_key_33 S hr hlocks hK hA  _ _ _ hw hE hk5 _ _ hH hS _ (lv_sub hl [0, 1] rfl)
        · have hw := hw.2 c24
          refine lv_iload_n hx hb dX0_key_24 rfl (lv_at hl 1 rfl) ?_
          refine lv_iconst (v := 4) hx hb dX0_key_25 (by decide) ?_
          refine lv_icmp_gt (tgt := 33) hx hb dX0_key_26 (by decide) (fun c25 => ?_) (fun c25 => ?_)
          · have hw := hw.1 c25
            exact r0_key_33 S hr hlocks hK hA  _ _ _ hw hE hk5 _ _ hH hS _ (lv_sub hl [0, 1] rfl)
          · have hw := hw.2 c25
            exact r0_key_29 S hr hlocks hK hA  _ _ _ hw hE hk5 _ _ hH hS _ (lv_sub hl [0, 1] rfl)
/-! FarTypewriter.letter(III)I -/
abbrev rm0_letter : Room := { frames := 1, cells := 0, slots := 0, locals := 21 }
def w0_letter (post : Int32 → Mm → Prop) (M : Mm) (a0 : Nat) (x1 : Int32) (x2 : Int32) (x3 : Int32) : Prop :=
  (x1 < 0 → post (-1) M) ∧ (¬ x1 < 0 → (1 < x1 → post (-1) M) ∧ (¬ 1 < x1 → (x2 < 0 → post (-1) M) ∧ (¬ x2 < 0 → mK M (mP M 104 a0 0) = 27 ∧ (vp_in x1 2 ∧ (mK M (mP M 27 (mP M 104 a0 0) x1.toNatClampNeg) = 2 ∧ (((mI M 201 (mP M 27 (mP M 104 a0 0) x1.toNatClampNeg) 0) ≤ x2 → post (-1) M) ∧ (¬ (mI M 201 (mP M 27 (mP M 104 a0 0) x1.toNatClampNeg) 0) ≤ x2 → (x3 < 0 → post (-1) M) ∧ (¬ x3 < 0 → mK M (mP M 104 a0 0) = 27 ∧ (vp_in x1 2 ∧ (mK M (mP M 27 (mP M 104 a0 0) x1.toNatClampNeg) = 2 ∧ (mK M (mP M 200 (mP M 27 (mP M 104 a0 0) x1.toNatClampNeg) 0) = 26 ∧ (vp_in x2 40 ∧ (mK M (mP M 26 (mP M 200 (mP M 27 (mP M 104 a0 0) x1.toNatClampNeg) 0) x2.toNatClampNeg) = 3 ∧ ((x3 ≤ (mI M 301 (mP M 26 (mP M 200 (mP M 27 (mP M 104 a0 0) x1.toNatClampNeg) 0) x2.toNatClampNeg) 0) → (x3 = 0 → mK M (mP M 104 a0 0) = 27 ∧ (vp_in x1 2 ∧ (mK M (mP M 27 (mP M 104 a0 0) x1.toNatClampNeg) = 2 ∧ (mK M (mP M 200 (mP M 27 (mP M 104 a0 0) x1.toNatClampNeg) 0) = 26 ∧ (vp_in x2 40 ∧ (mK M (mP M 26 (mP M 200 (mP M 27 (mP M 104 a0 0) x1.toNatClampNeg) 0) x2.toNatClampNeg) = 3 ∧ (post (mI M 301 (mP M 26 (mP M 200 (mP M 27 (mP M 104 a0 0) x1.toNatClampNeg) 0) x2.toNatClampNeg) 0) M))))))) ∧ (¬ x3 = 0 → mK M (mP M 104 a0 0) = 27 ∧ (vp_in x1 2 ∧ (mK M (mP M 27 (mP M 104 a0 0) x1.toNatClampNeg) = 2 ∧ (mK M (mP M 200 (mP M 27 (mP M 104 a0 0) x1.toNatClampNeg) 0) = 26 ∧ (vp_in x2 40 ∧ (mK M (mP M 26 (mP M 200 (mP M 27 (mP M 104 a0 0) x1.toNatClampNeg) 0) x2.toNatClampNeg) = 3 ∧ (w2_at (fun (r24 : Int32) (M23 : Mm) => post r24 M23) M (mP M 26 (mP M 200 (mP M 27 (mP M 104 a0 0) x1.toNatClampNeg) 0) x2.toNatClampNeg) (x3 - 1))))))))) ∧ (¬ x3 ≤ (mI M 301 (mP M 26 (mP M 200 (mP M 27 (mP M 104 a0 0) x1.toNatClampNeg) 0) x2.toNatClampNeg) 0) → post (-1) M)))))))))))))))
set_option maxHeartbeats 4000000 in
set_option maxRecDepth 100000 in
theorem m0_letter (l : Launch) (g : CG) (AD : Nat → Prop) (M : Mm) (a0 : Nat) (x1 : Int32) (x2 : Int32) (x3 : Int32) (post : Int32 → Mm → Prop) (hk_a0 : mK M a0 = 1) (hw : w0_letter post M a0 x1 x2 x3) : Met l yX0_letter (ws_ yX0_letter cX0_letter 4 (some .int)) rm0_letter (CPc g AD M [.ref a0, .int x1, .int x2, .int x3]) (CQi g AD M post) 0 0 AD := by
  refine Met.ofW (cc := cX0_letter) (maxL := 4) (ret := (some .int)) (by decide) rfl ?_
  intro p e s m args below meth c s₁ B hml hv
  obtain ⟨rfl, hK, hH, hA⟩ := hv
  have hx := B.exec
  have hb := B.bytes
  have hr : meth.sig.returnType = (some .int) := B.returns
  have hts := atoms_spec (ws := ws_ yX0_letter cX0_letter 4 (some .int)) B.pre
  have hts : ∀ w ∈ lw_all, w.before _ s = true := fun w h => hts w (List.mem_cons_of_mem _ h)
  have hown : s.vm.findClass RX0 = some m.cls := findClass_of_methodNamed B.named
  have hlocks : meth.locks = false := B.notSynchronized
  have S : CallFix p m c cX0_letter 4 s _ lw_all RX0 := ⟨hx, hb, hml, hown, hts⟩
  have hS : va_S AD s.heap s.heap [] := va_S.rf
  have hE : Ext M M := Ext.rf
  have hl := lv_entry ([.ref a0, .int x1, .int x2, .int x3]) (n := 4) (Nat.le_of_ble_eq_true rfl)
  rw [lg_entry_eq]
  generalize (lg_sl ([.ref a0, .int x1, .int x2, .int x3]) ++ List.replicate (4 - (lg_sl ([.ref a0, .int x1, .int x2, .int x3])).length) Slot.unset).toArray = ls at hl ⊢
  have hl : lv_has ls 4 [(0, .ref a0), (1, .int x1), (2, .int x2), (3, .int x3)] := hl
  unfold w0_letter at hw
  refine lv_iload_n hx hb dX0_letter_0 rfl (lv_at hl 1 rfl) ?_
  refine lv_if_lt (tgt := 48) hx hb dX0_letter_1 (by decide) (fun c1 => ?_) (fun c1 => ?_)
  · have hw := hw.1 c1
    refine lv_iconst (v := (-1)) hx hb dX0_letter_48 (by decide) ?_
    exact co_iret S hr hlocks hH hE hS hw dX0_letter_49
  · have hw := hw.2 c1
    refine lv_iload_n hx hb dX0_letter_4 rfl (lv_at hl 1 rfl) ?_
    refine lv_iconst (v := 1) hx hb dX0_letter_5 (by decide) ?_
    refine lv_icmp_gt (tgt := 48) hx hb dX0_letter_6 (by decide) (fun c2 => ?_) (fun c2 => ?_)
    · have hw := hw.1 c2
      refine lv_iconst (v := (-1)) hx hb dX0_letter_48 (by decide) ?_
      exact co_iret S hr hlocks hH hE hS hw dX0_letter_49
    · have hw := hw.2 c2
      refine lv_iload_n hx hb dX0_letter_9 rfl (lv_at hl 2 rfl) ?_
      refine lv_if_lt (tgt := 48) hx hb dX0_letter_10 (by decide) (fun c3 => ?_) (fun c3 => ?_)
      · have hw := hw.1 c3
        refine lv_iconst (v := (-1)) hx hb dX0_letter_48 (by decide) ?_
        exact co_iret S hr hlocks hH hE hS hw dX0_letter_49
      · have hw := hw.2 c3
        refine lv_iload_n hx hb dX0_letter_13 rfl (lv_at hl 2 rfl) ?_
        refine lv_aload_n hx hb dX0_letter_14 rfl (lv_at hl 0 rfl) ?_
        have hk4 := hw.1
        have hw := hw.2
        refine co_getr S hK hH 0 4 104 (by decide) ⟨by decide, rfl, rfl, rfl⟩ (Or.inl q265) hk_a0 (by rw [hk4]; decide) dX0_letter_15 ?_
        refine lv_iload_n hx hb dX0_letter_18 rfl (lv_at hl 1 rfl) ?_
        have hin5 := hw.1
        have hw := hw.2
        have hk6 := hw.1
        have hw := hw.2
        refine co_aald S hK hH 7 27 ⟨by decide, rfl, rfl⟩ hk4 hin5 (by rw [hk6]; decide) dX0_letter_19 ?_
        refine co_geti S hK hH 1 1 201 (by decide) ⟨by decide, rfl, rfl, rfl⟩ (Or.inr ⟨_, q111⟩) hk6 dX0_letter_20 ?_
        refine lv_icmp_ge (tgt := 48) hx hb dX0_letter_23 (by decide) (fun c7 => ?_) (fun c7 => ?_)
        · have hw := hw.1 c7
          refine lv_iconst (v := (-1)) hx hb dX0_letter_48 (by decide) ?_
          exact co_iret S hr hlocks hH hE hS hw dX0_letter_49
        · have hw := hw.2 c7
          refine lv_iload_n hx hb dX0_letter_26 rfl (lv_at hl 3 rfl) ?_
          refine lv_if_lt (tgt := 48) hx hb dX0_letter_27 (by decide) (fun c8 => ?_) (fun c8 => ?_)
          · have hw := hw.1 c8
            refine lv_iconst (v := (-1)) hx hb dX0_letter_48 (by decide) ?_
            exact co_iret S hr hlocks hH hE hS hw dX0_letter_49
          · have hw := hw.2 c8
            refine lv_iload_n hx hb dX0_letter_30 rfl (lv_at hl 3 rfl) ?_
            refine lv_aload_n hx hb dX0_letter_31 rfl (lv_at hl 0 rfl) ?_
            have hk9 := hw.1
            have hw := hw.2
            refine co_getr S hK hH 0 4 104 (by decide) ⟨by decide, rfl, rfl, rfl⟩ (Or.inl q265) hk_a0 (by rw [hk9]; decide) dX0_letter_32 ?_
            refine lv_iload_n hx hb dX0_letter_35 rfl (lv_at hl 1 rfl) ?_
            have hin10 := hw.1
            have hw := hw.2
            have hk11 := hw.1
            have hw := hw.2
            refine co_aald S hK hH 7 27 ⟨by decide, rfl, rfl⟩ hk9 hin10 (by rw [hk11]; decide) dX0_letter_36 ?_
            have hk12 := hw.1
            have hw := hw.2
            refine co_getr S hK hH 1 0 200 (by decide) ⟨by decide, rfl, rfl, rfl⟩ (Or.inr ⟨_, q109⟩) hk11 (by rw [hk12]; decide) dX0_letter_37 ?_
            refine lv_iload_n hx hb dX0_letter_40 rfl (lv_at hl 2 rfl) ?_
            have hin13 := hw.1
            have hw := hw.2
            have hk14 := hw.1
            have hw := hw.2
            refine co_aald S hK hH 6 26 ⟨by decide, rfl, rfl⟩ hk12 hin13 (by rw [hk14]; decide) dX0_letter_41 ?_
            refine co_geti S hK hH 2 1 301 (by decide) ⟨by decide, rfl, rfl, rfl⟩ (Or.inr ⟨_, q100⟩) hk14 dX0_letter_42 ?_
            refine lv_icmp_le (tgt := 50) hx hb dX0_letter_45 (by decide) (fun c15 => ?_) (fun c15 => ?_)
            · have hw := hw.1 c15
              refine lv_iload_n hx hb dX0_letter_50 rfl (lv_at hl 3 rfl) ?_
              refine lv_if_ne (tgt := 71) hx hb dX0_letter_51 (by decide) (fun c16 => ?_) (fun c16 => ?_)
              · have hw := hw.2 c16
                refine lv_aload_n hx hb dX0_letter_71 rfl (lv_at hl 0 rfl) ?_
                have hk17 := hw.1
                have hw := hw.2
                refine co_getr S hK hH 0 4 104 (by decide) ⟨by decide, rfl, rfl, rfl⟩ (Or.inl q265) hk_a0 (by rw [hk17]; decide) dX0_letter_72 ?_
                refine lv_iload_n hx hb dX0_letter_75 rfl (lv_at hl 1 rfl) ?_
                have hin18 := hw.1
                have hw := hw.2
                have hk19 := hw.1
                have hw := hw.2
                refine co_aald S hK hH 7 27 ⟨by decide, rfl, rfl⟩ hk17 hin18 (by rw [hk19]; decide) dX0_letter_76 ?_
                have hk20 := hw.1
                have hw := hw.2
                refine co_getr S hK hH 1 0 200 (by decide) ⟨by decide, rfl, rfl, rfl⟩ (Or.inr ⟨_, q109⟩) hk19 (by rw [hk20]; decide) dX0_letter_77 ?_
                refine lv_iload_n hx hb dX0_letter_80 rfl (lv_at hl 2 rfl) ?_
                have hin21 := hw.1
                have hw := hw.2
                have hk22 := hw.1
                have hw := hw.2
                refine co_aald S hK hH 6 26 ⟨by decide, rfl, rfl⟩ hk20 hin21 (by rw [hk22]; decide) dX0_letter_81 ?_
                refine lv_iload_n hx hb dX0_letter_82 rfl (lv_at hl 3 rfl) ?_
                refine lv_iconst (v := 1) hx hb dX0_letter_83 (by decide) ?_
                refine lv_isub hx hb dX0_letter_84 ?_
                refine co_calli (va_runV (As := [.int (x3 - 1)]) (rest := []) S (m2_at l g AD M (mP M 26 (mP M 200 (mP M 27 (mP M 104 a0 0) x1.toNatClampNeg) 0) x2.toNatClampNeg) (x3 - 1) _ hk22 hw) (cwV 1 hts (lw_V q644 q603 q604 q56 q605) rfl rfl rfl (by decide +kernel) ⟨Nat.le_of_ble_eq_true rfl, Nat.le_of_ble_eq_true rfl⟩) ⟨co_blind, co_recv hK hH (c := 2) (by decide) hk22, co_pre hK hH hA hS⟩ rfl rfl hl.1 rfl (lv_room (Nat.le_of_ble_eq_true rfl)) dX0_letter_85 ⟨Nat.le_refl _, Nat.le_refl _⟩) hS (fun r24 M23 H locs hw hH hE25 hS => ?_)
                have hk27 := hE25.k hk_a0 (by decide)
                have hE := hE.tr hE25
                exact co_iret S hr hlocks hH hE hS hw dX0_letter_88
              · have hw := hw.1 c16
                refine lv_aload_n hx hb dX0_letter_54 rfl (lv_at hl 0 rfl) ?_
                have hk28 := hw.1
                have hw := hw.2
                refine co_getr S hK hH 0 4 104 (by decide) ⟨by decide, rfl, rfl, rfl⟩ (Or.inl q265) hk_a0 (by rw [hk28]; decide) dX0_letter_55 ?_
                refine lv_iload_n hx hb dX0_letter_58 rfl (lv_at hl 1 rfl) ?_
                have hin29 := hw.1
                have hw := hw.2
                have hk30 := hw.1
                have hw := hw.2
                refine co_aald S hK hH 7 27 ⟨by decide, rfl, rfl⟩ hk28 hin29 (by rw [hk30]; decide) dX0_letter_59 ?_
                have hk31 := hw.1
                have hw := hw.2
                refine co_getr S hK hH 1 0 200 (by decide) ⟨by decide, rfl, rfl, rfl⟩ (Or.inr ⟨_, q109⟩) hk30 (by rw [hk31]; decide) dX0_letter_60 ?_
                refine lv_iload_n hx hb dX0_letter_63 rfl (lv_at hl 2 rfl) ?_
                have hin32 := hw.1
                have hw := hw.2
                have hk33 := hw.1
                have hw := hw.2
                refine co_aald S hK hH 6 26 ⟨by decide, rfl, rfl⟩ hk31 hin32 (by rw [hk33]; decide) dX0_letter_64 ?_
                refine co_geti S hK hH 2 1 301 (by decide) ⟨by decide, rfl, rfl, rfl⟩ (Or.inr ⟨_, q100⟩) hk33 dX0_letter_65 ?_
                refine lv_goto (tgt := 88) hx hb dX0_letter_68 (by decide) ?_
                exact co_iret S hr hlocks hH hE hS hw dX0_letter_88
            · have hw := hw.2 c15
              refine lv_iconst (v := (-1)) hx hb dX0_letter_48 (by decide) ?_
              exact co_iret S hr hlocks hH hE hS hw dX0_letter_49
