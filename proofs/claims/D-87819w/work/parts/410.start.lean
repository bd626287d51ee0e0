/-! what the tables give at the law's start: the classes and array classes -/
theorem as_self (vm : Vm) (c : ClassId) : vm.assignable c c = true := by
  show Vm.assignableAux vm (255 + 1) c c = true
  rw [Vm.assignableAux]
  simp
theorem ck_inst : ∀ c ∈ ckL, Cond.instantiable (ckR c) (ckN c) ∈ lw_all := ck_all q76 q85 q92 q120 q127 q133 q195 q208 q369 q376 q386
theorem arr_ofT {s : State} {c comp : ClassId} {k : Class} {ty : FieldType} (h1 : s.vm.classes[c]? = some k) (h2 : k.kind = .array comp ty) : ArrOfT s c ty := fun _ _ => ⟨fun _ h => (by cases h), k, h1, comp, h2⟩
theorem kc_start {s : State} {args : Array Value} (ht : ∀ w ∈ lw_tbl, w.before args s = true) : ∃ g : CG, KC g s := by
  have hta : ∀ w ∈ lw_all, w.before args s = true := fun w h => ht w (lw_all_tbl h)
  have hc : ∀ c, ∃ (cC : ClassId) (iS : Nat → Nat), c ∈ ckL → u_Kn s (ckR c) (ckT c) (ckN c) cC iS := by
    intro c
    by_cases h : c ∈ ckL
    · obtain ⟨cC, iS, hk⟩ := u_known (C := ckR c) (T := ckT c) (N := ckN c) (n := ckN c) hta (ck_in c h) (hta _ (ck_inst c h))
      exact ⟨cC, iS, fun _ => hk⟩
    · exact ⟨0, fun _ => 0, fun h' => absurd h' h⟩
  obtain ⟨dC, hdC⟩ : ∃ dC : Nat → ClassId, ∀ c, ∃ iS : Nat → Nat, c ∈ ckL → u_Kn s (ckR c) (ckT c) (ckN c) (dC c) iS := ⟨fun c => Classical.choose (hc c), fun c => Classical.choose_spec (hc c)⟩
  obtain ⟨dI, hdI⟩ : ∃ dI : Nat → Nat → Nat, ∀ c, c ∈ ckL → u_Kn s (ckR c) (ckT c) (ckN c) (dC c) (dI c) := ⟨fun c => Classical.choose (hdC c), fun c => Classical.choose_spec (hdC c)⟩
  obtain ⟨cB, kB, eB, b1, b2, b3⟩ := Cond.arrayClass_spec (hta _ q107)
  obtain ⟨cI, kI, eI, i1, i2, i3⟩ := Cond.arrayClass_spec (hta _ q106)
  obtain ⟨eBB, cBB, kBB, bb1, -, bb2, bb3, bb4⟩ := arrayOverA_spec (ht _ q139)
  have hBB : eBB = cB := Option.some.inj (bb1.symm.trans b1)
  subst hBB
  obtain ⟨e5, c5, k5, s51, -, s52, s53, s54⟩ := Cond.arrayOver_spec (ht _ q126)
  obtain ⟨e6, c6, k6, s61, -, s62, s63, s64⟩ := Cond.arrayOver_spec (ht _ q91)
  obtain ⟨e7, c7, k7, s71, -, s72, s73, s74⟩ := Cond.arrayOver_spec (ht _ q84)
  obtain ⟨e8, c8, k8, s81, -, s82, s83, s84⟩ := Cond.arrayOver_spec (ht _ q207)
  have h5 : e5 = dC 4 := Option.some.inj (s51.symm.trans (hdI 4 (by decide)).2.1)
  have h6 : e6 = dC 2 := Option.some.inj (s61.symm.trans (hdI 2 (by decide)).2.1)
  have h7 : e7 = dC 1 := Option.some.inj (s71.symm.trans (hdI 1 (by decide)).2.1)
  have h8 : e8 = dC 8 := Option.some.inj (s81.symm.trans (hdI 8 (by decide)).2.1)
  subst h5; subst h6; subst h7; subst h8
  obtain ⟨-, k4c, k4k, -⟩ := (hdI 4 (by decide)).2
  obtain ⟨-, k2c, k2k, -⟩ := (hdI 2 (by decide)).2
  obtain ⟨-, k1c, k1k, -⟩ := (hdI 1 (by decide)).2
  obtain ⟨-, k8c, k8k, -⟩ := (hdI 8 (by decide)).2
  refine ⟨(dC, dI, fun j => match j with | 0 => eBB | 1 => cBB | 2 => eBB | 3 => eBB | 4 => cI | 5 => c5 | 6 => c6 | 7 => c7 | _ => c8), hdI, fun j hj => ?_, fun j hj hr => ?_, fun w hw hn => ?_, va_AO.of (ht _ q84), va_AO.of (ht _ q91), va_AO.of (ht _ q126), va_AO.of (ht _ q207)⟩
  · rcases (show j = 0 ∨ j = 1 ∨ j = 2 ∨ j = 3 ∨ j = 4 ∨ j = 5 ∨ j = 6 ∨ j = 7 ∨ j = 8 by omega) with rfl | rfl | rfl | rfl | rfl | rfl | rfl | rfl | rfl
    · exact ⟨arr_ofT b2 b3, b1⟩
    · exact ⟨arr_ofT bb2 bb3, bb4⟩
    · exact ⟨arr_ofT b2 b3, b1⟩
    · exact ⟨arr_ofT b2 b3, b1⟩
    · exact ⟨arr_ofT i2 i3, i1⟩
    · exact ⟨arr_ofT s52 s53, s54⟩
    · exact ⟨arr_ofT s62 s63, s64⟩
    · exact ⟨arr_ofT s72 s73, s74⟩
    · exact ⟨arr_ofT s82 s83, s84⟩
  · rcases (show j = 0 ∨ j = 1 ∨ j = 2 ∨ j = 3 ∨ j = 4 ∨ j = 5 ∨ j = 6 ∨ j = 7 ∨ j = 8 by omega) with rfl | rfl | rfl | rfl | rfl | rfl | rfl | rfl | rfl
    · cases hr
    · exact ⟨⟨kBB, bb2, bb3⟩, ⟨kB, b2⟩, as_self _ _⟩
    · cases hr
    · cases hr
    · cases hr
    · exact ⟨⟨k5, s52, s53⟩, ⟨k4c, k4k⟩, as_self _ _⟩
    · exact ⟨⟨k6, s62, s63⟩, ⟨k2c, k2k⟩, as_self _ _⟩
    · exact ⟨⟨k7, s72, s73⟩, ⟨k1c, k1k⟩, as_self _ _⟩
    · exact ⟨⟨k8, s82, s83⟩, ⟨k8c, k8k⟩, as_self _ _⟩
  · refine va_Nw.of ?_ (ht w hw)
    cases w <;> first | rfl | (exact absurd hn (by simp [coNest]))
theorem km_start {s : State} {args : Array Value} (ht : ∀ w ∈ lw_tbl, w.before args s = true) : ∃ (cC : ClassId) (iS : Nat → Nat) (cA : ClassId), u_Kn s RX9 TX9 46 cC iS ∧ mp_A cA s := by
  have hta : ∀ w ∈ lw_all, w.before args s = true := fun w h => ht w (lw_all_tbl h)
  obtain ⟨cC, iS, hk⟩ := u_known (C := RX9) (T := TX9) (N := 46) (n := 46) hta in_X9 (hta _ q765)
  obtain ⟨cI, kI, eI, i1, i2, i3⟩ := Cond.arrayClass_spec (hta _ q106)
  exact ⟨cC, iS, cI, hk, arr_ofT i2 i3, i1⟩
/-- cells that the memory doesn't speak of -/
def sZ (M : Mm) (k : Nat) : Mm := (M.1 + k, M.2.1, M.2.2.1, M.2.2.2)
theorem HC.more {g : CG} {AD AD' : Nat → Prop} {M : Mm} {H H1 : Heap} (h : HC g AD M H) (k : Nat) (hz : H1.size = H.size + k) (ho : ∀ q, mK M q ≠ 0 → H1[q]? = H[q]?) (hA : ∀ q, mK M q ≠ 0 → AD' q) : HC g AD' (sZ M k) H1 := by
  refine ⟨by rw [hz, h.1]; rfl, ⟨h.2.1.1, by have := h.2.1.2; show 0 < M.1 + k; have : 0 < M.1 := this; omega⟩, fun q hq => ?_⟩
  have hq : mK M q ≠ 0 := hq
  obtain ⟨k1, k2⟩ := h.2.2 q hq
  refine ⟨hA q hq, ?_⟩
  rcases k2 with ⟨c, q1, q2, q3⟩ | ⟨j, q1, q2, q3⟩
  · exact Or.inl ⟨c, q1, q2, q3.kept (ho q hq)⟩
  · exact Or.inr ⟨j, q1, q2, by rw [ho q hq]; exact q3⟩
theorem HC.none {g : CG} {AD : Nat → Prop} {H : Heap} (h : 0 < H.size) : HC g AD (H.size, fun _ => 0, fun _ _ _ => 0, fun _ _ _ => 0) H := ⟨rfl, ⟨rfl, h⟩, fun _ h => absurd rfl h⟩
