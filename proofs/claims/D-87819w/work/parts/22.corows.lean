/-! rows for the class's instructions over its memory -/
section COW
variable {p : Program} {l : Launch} {e : Env} {R : Room} {s : State} {m : MethodId} {args : Array Value} {below : List Frame} {meth : Method} {c : Code} {H : Heap} {locs : List Loc} {cells slots : Nat} {Q : State → Prop}
variable {cc : ByteArray} {nL pc : Nat} {ls : Array Slot} {rest : List Value} {own : String} {g : CG} {AD : Nat → Prop} {M : Mm}
theorem co_get (S : CallFix p m c cc nL s args lw_all own) (hK : KC g s) {index : Nat} {ref f d : String} (hl : coLk own index ref f d) {cf i : Nat} {k : Class} {fd : Field} (hi : s.fieldFound? ref f d = some (cf, k, i, fd)) (hst : fd.isStatic = false) {a : Addr} {cell : Cell} {v : Value} (hcell : H[a]? = some cell) (hknown : cell.vm ≠ .unknown) (hslot : cell.slots[fd.slot]? = some v) (hdg : decode cc pc = .ok (.getfield index, 3))
    (kk : W p l e R s m args below meth c H locs cells slots Q (F0 m (pc + 3) ls (v :: rest))) : W p l e R s m args below meth c H locs cells slots Q (F0 m pc ls (.ref a :: rest)) := by
  obtain ⟨hx, hb, -, hown, hts⟩ := S
  rcases hl with hl | ⟨host, hl⟩
  · exact W.getf hx hb hown (hts _ hl) hi hst hcell hknown hslot rfl rfl hdg kk
  · exact va_Wgetf hx hb hown (va_Nw.use rfl (hK.2.2.2.1 _ hl rfl)) hi hst hcell hknown hslot rfl rfl hdg kk
theorem co_geti (S : CallFix p m c cc nL s args lw_all own) (hK : KC g s) (hH : HC g AD M H) (ci k t : Nat) (hc : ci ∈ ckL) (hk : k < ckN ci ∧ (ckY ci k).isReference = false ∧ (ckT ci k).1 = ckR ci ∧ 100 * (ci + 1) + k = t) {index : Nat} (hl : coLk own index (ckR ci) (ckT ci k).2.1 (ckT ci k).2.2.1) {a : Nat} (ha : mK M a = ci + 1) (hdg : decode cc pc = .ok (.getfield index, 3))
    (kk : W p l e R s m args below meth c H locs cells slots Q (F0 m (pc + 3) ls (.int (mI M t a 0) :: rest))) : W p l e R s m args below meth c H locs cells slots Q (F0 m pc ls (.ref a :: rest)) := by
  obtain ⟨h1, h2, h3, rfl⟩ := hk
  obtain ⟨cell, q1, q2, q3, q4⟩ := hH.obj hc ha
  obtain ⟨hS, hfc, kC, hkC, hkind⟩ := hK.1 ci hc
  obtain ⟨cf, kf, fi, f, hi, hsl⟩ := hS k h1
  refine co_get S hK hl (by rw [h3] at hi; exact hi) (u_facts hfc hkC (u_lays S.2.2.2.2 (ck_in ci hc) h1) hi).1 q1 (by rw [q3]; exact fun h => by cases h) ?_ hdg kk
  rw [hsl, q4 k h1]
  simp [coV, h2]
theorem co_getr (S : CallFix p m c cc nL s args lw_all own) (hK : KC g s) (hH : HC g AD M H) (ci k t : Nat) (hc : ci ∈ ckL) (hk : k < ckN ci ∧ (ckY ci k).isReference = true ∧ (ckT ci k).1 = ckR ci ∧ 100 * (ci + 1) + k = t) {index : Nat} (hl : coLk own index (ckR ci) (ckT ci k).2.1 (ckT ci k).2.2.1) {a : Nat} (ha : mK M a = ci + 1) (hnz : mK M (mP M t a 0) ≠ 0) (hdg : decode cc pc = .ok (.getfield index, 3))
    (kk : W p l e R s m args below meth c H locs cells slots Q (F0 m (pc + 3) ls (.ref (mP M t a 0) :: rest))) : W p l e R s m args below meth c H locs cells slots Q (F0 m pc ls (.ref a :: rest)) := by
  obtain ⟨h1, h2, h3, rfl⟩ := hk
  obtain ⟨cell, q1, q2, q3, q4⟩ := hH.obj hc ha
  obtain ⟨hS, hfc, kC, hkC, hkind⟩ := hK.1 ci hc
  obtain ⟨cf, kf, fi, f, hi, hsl⟩ := hS k h1
  refine co_get S hK hl (by rw [h3] at hi; exact hi) (u_facts hfc hkC (u_lays S.2.2.2.2 (ck_in ci hc) h1) hi).1 q1 (by rw [q3]; exact fun h => by cases h) ?_ hdg kk
  rw [hsl, q4 k h1]
  simp [coV, h2, rfV_ne (hH.ne hnz)]
theorem co_apart (hts : ∀ w ∈ lw_all, w.before args s = true) (hK : KC g s) {ci : Nat} (hc : ci ∈ ckL) : ∀ x y, x < ckN ci → y < ckN ci → x ≠ y → g.2.1 ci x ≠ g.2.1 ci y := by
  intro x y hx hy hne
  obtain ⟨hS, -⟩ := hK.1 ci hc
  obtain ⟨_, _, _, fa, hia, ea⟩ := hS x hx
  obtain ⟨_, _, _, fb, hib, eb⟩ := hS y hy
  rw [← ea, ← eb]
  refine u_apart (u_lays hts (ck_in ci hc) hx) (u_lays hts (ck_in ci hc) hy) hia hib ?_
  rw [(State.fieldFound?_type hia (ck_ty ci hc x hx)).1, (State.fieldFound?_type hib (ck_ty ci hc y hy)).1]
  exact ck_nm ci hc x hx y hy hne
/-- putfield of any value, to a field that isn't final -/
theorem co_putv (S : CallFix p m c cc nL s args lw_all own) (hK : KC g s) (hH : HC g AD M H) (ci k : Nat) (hc : ci ∈ ckL) (h1 : k < ckN ci) (h3 : (ckT ci k).1 = ckR ci) (hfin : (ckT ci k).2.2.2 = false) {index : Nat} (hl : coLk own index (ckR ci) (ckT ci k).2.1 (ckT ci k).2.2.1) {a : Nat} (ha : mK M a = ci + 1) {v : Value} (hn : narrow (ckY ci k) v = v ∧ fits (ckY ci k) v = true) (hdg : decode cc pc = .ok (.putfield index, 3))
    (kk : ∀ (H1 : Heap) (k' : Nat), t_OB a (g.1 ci) (ckN ci) (g.2.1 ci) H1 (updV (coV M ci a) k v) → H1.size = H.size → (∀ q, q ≠ a → H1[q]? = H[q]?) → W p l e R s m args below meth c H1 (locs ++ [⟨a, k'⟩]) cells slots Q (F0 m (pc + 3) ls rest)) : W p l e R s m args below meth c H locs cells slots Q (F0 m pc ls (v :: .ref a :: rest)) := by
  obtain ⟨hx, hb, -, hown, hts⟩ := S
  have hap := co_apart hts hK hc
  obtain ⟨cell, q1, q2, q3, q4⟩ := hH.obj hc ha
  obtain ⟨hS, hfc, kC, hkC, hkind⟩ := hK.1 ci hc
  obtain ⟨cf, kf, fi, f, hi, hsl⟩ := hS k h1
  have hlay := hts _ (ck_in ci hc _ (u_in_lay h1))
  unfold u_lay at hlay
  rw [if_neg (by rw [hfin]; decide)] at hlay
  have hst := (u_facts hfc hkC (u_lays hts (ck_in ci hc) h1) hi).1
  have h6 := u_store hfc hkC hkind hlay hi (ck_ty ci hc k h1) hn.1 hn.2
  have hi' := hi
  rw [h3] at hi'
  rcases hl with hl | ⟨host, hl⟩
  · refine W.putK hx hb (f := f) ⟨hown, hts _ hl, ⟨_, _, _, hi'⟩, hst⟩ (by rw [q2]; exact h6) q1 q3 (by rw [hsl]; exact k2_hasslot (q4 k h1)) rfl rfl hdg fun H' e1 e2 e3 => ?_
    rw [hsl] at e1
    exact kk H' _ ⟨_, e1, q2, q3, t_set q4 hap h1 v⟩ e2 e3
  · refine va_WputK hx hb (f := f) hown (va_Nw.use rfl (hK.2.2.2.1 _ hl rfl)) hi' hst (by rw [q2]; exact h6) q1 q3 (by rw [hsl]; exact k2_hasslot (q4 k h1)) rfl rfl hdg fun H' e1 e2 e3 => ?_
    rw [hsl] at e1
    exact kk H' _ ⟨_, e1, q2, q3, t_set q4 hap h1 v⟩ e2 e3
/-- putfield of any value, to a final field in its class's constructor -/
theorem co_putw (S : CallFix p m c cc nL s args lw_all own) (hin : meth.name = "<init>") (hK : KC g s) (hH : HC g AD M H) (ci k : Nat) (hc : ci ∈ ckL) (h1 : k < ckN ci) (h3 : (ckT ci k).1 = ckR ci) (h4 : ckR ci = own) (hfin : (ckT ci k).2.2.2 = true) {index : Nat} (hl : Cond.fieldLink own index (ckR ci) (ckT ci k).2.1 (ckT ci k).2.2.1 ∈ lw_all) {a : Nat} (ha : mK M a = ci + 1) {v : Value} (hn : narrow (ckY ci k) v = v ∧ fits (ckY ci k) v = true) (hdg : decode cc pc = .ok (.putfield index, 3))
    (kk : ∀ (H1 : Heap) (k' : Nat), t_OB a (g.1 ci) (ckN ci) (g.2.1 ci) H1 (updV (coV M ci a) k v) → H1.size = H.size → (∀ q, q ≠ a → H1[q]? = H[q]?) → W p l e R s m args below meth c H1 (locs ++ [⟨a, k'⟩]) cells slots Q (F0 m (pc + 3) ls rest)) : W p l e R s m args below meth c H locs cells slots Q (F0 m pc ls (v :: .ref a :: rest)) := by
  obtain ⟨hx, hb, -, hown, hts⟩ := S
  have hap := co_apart hts hK hc
  obtain ⟨cell, q1, q2, q3, q4⟩ := hH.obj hc ha
  obtain ⟨hS, hfc, kC, hkC, hkind⟩ := hK.1 ci hc
  obtain ⟨cf, kf, fi, f, hi, hsl⟩ := hS k h1
  have hlay := hts _ (ck_in ci hc _ (u_in_lay h1))
  unfold u_lay at hlay
  rw [if_pos hfin] at hlay
  have hst := (u_facts hfc hkC (u_lays hts (ck_in ci hc) h1) hi).1
  have hcf : m.cls = cf := by
    obtain ⟨_, _, c', _, _, _, -, -, hf', -, -, -, hown2, -⟩ := Cond.laysFinal_spec hlay
    have e1 : c' = cf := by have := hi.symm.trans hf'; simp at this; exact this.1.symm
    rw [h3, h4] at hown2
    rw [← e1]; exact Option.some.inj (hown.symm.trans hown2)
  have h6 := u_fits hfc hkC hkind (Or.inr hlay) hi (ck_ty ci hc k h1) hn.1 hn.2
  have hi' := hi
  rw [h3] at hi'
  refine W.putFinK hx hb hown (hts _ hl) hi' hst hcf hin (by rw [q2]; exact h6) q1 q3 (by rw [hsl]; exact k2_hasslot (q4 k h1)) rfl rfl hdg fun H' e1 e2 e3 => ?_
  rw [hsl] at e1
  exact kk H' _ ⟨_, e1, q2, q3, t_set q4 hap h1 v⟩ e2 e3
theorem co_setI (hH : HC g AD M H) {ci k t a : Nat} {v : Int32} {H1 : Heap} (hc : ci ∈ ckL) (hr : (ckY ci k).isReference = false) (ht : 100 * (ci + 1) + k = t) (ha : mK M a = ci + 1) (hob : t_OB a (g.1 ci) (ckN ci) (g.2.1 ci) H1 (updV (coV M ci a) k (.int v))) (hz : H1.size = H.size) (ho : ∀ q, q ≠ a → H1[q]? = H[q]?) : HC g AD (sI M t a 0 v) H1 := by
  refine hH.upd a hz ho rfl rfl (fun t' q i hq => by simp [mI, sI, up3, hq]) (fun _ _ _ _ => rfl) (Or.inl ⟨ci, hc, ha, hob.to (fun j _ => ?_)⟩)
  subst ht
  by_cases hj : j = k
  · subst hj
    simp [updV, coV, hr, mI, sI, up3]
  · simp [updV, coV, mI, mP, sI, up3, hj]
theorem co_setP (hH : HC g AD M H) {ci k t a v : Nat} {H1 : Heap} (hc : ci ∈ ckL) (hr : (ckY ci k).isReference = true) (ht : 100 * (ci + 1) + k = t) (ha : mK M a = ci + 1) (hv : v ≠ 0) (hob : t_OB a (g.1 ci) (ckN ci) (g.2.1 ci) H1 (updV (coV M ci a) k (.ref v))) (hz : H1.size = H.size) (ho : ∀ q, q ≠ a → H1[q]? = H[q]?) : HC g AD (sP M t a 0 v) H1 := by
  refine hH.upd a hz ho rfl rfl (fun _ _ _ _ => rfl) (fun t' q i hq => by simp [mP, sP, up3, hq]) (Or.inl ⟨ci, hc, ha, hob.to (fun j _ => ?_)⟩)
  subst ht
  by_cases hj : j = k
  · subst hj
    simp [updV, coV, hr, mP, sP, up3, rfV_ne hv]
  · simp [updV, coV, mI, mP, sP, up3, hj]
theorem co_puti (S : CallFix p m c cc nL s args lw_all own) (hK : KC g s) (hH : HC g AD M H) (hS : va_S AD s.heap H locs) (ci k t : Nat) (hc : ci ∈ ckL) (hk : k < ckN ci ∧ (ckY ci k).isReference = false ∧ (ckT ci k).1 = ckR ci ∧ 100 * (ci + 1) + k = t ∧ (ckT ci k).2.2.2 = false) {index : Nat} (hl : coLk own index (ckR ci) (ckT ci k).2.1 (ckT ci k).2.2.1) {a : Nat} (ha : mK M a = ci + 1) {v : Int32} (hn : narrow (ckY ci k) (.int v) = .int v ∧ fits (ckY ci k) (.int v) = true) (hdg : decode cc pc = .ok (.putfield index, 3))
    (kk : ∀ (H1 : Heap) (locs1 : List Loc), HC g AD (sI M t a 0 v) H1 → va_S AD s.heap H1 locs1 → W p l e R s m args below meth c H1 locs1 cells slots Q (F0 m (pc + 3) ls rest)) : W p l e R s m args below meth c H locs cells slots Q (F0 m pc ls (.int v :: .ref a :: rest)) :=
  co_putv S hK hH ci k hc hk.1 hk.2.2.1 hk.2.2.2.2 hl ha hn hdg (fun H1 _ hob hz ho => kk H1 _ (co_setI hH hc hk.2.1 hk.2.2.2.1 ha hob hz ho) (hS.put hz ho (hH.2.2 a (by rw [ha]; exact Nat.succ_ne_zero _)).1))
theorem co_putr (S : CallFix p m c cc nL s args lw_all own) (hK : KC g s) (hH : HC g AD M H) (hS : va_S AD s.heap H locs) (ci k t : Nat) (hc : ci ∈ ckL) (hk : k < ckN ci ∧ (ckY ci k).isReference = true ∧ (ckT ci k).1 = ckR ci ∧ 100 * (ci + 1) + k = t ∧ (ckT ci k).2.2.2 = false) {index : Nat} (hl : coLk own index (ckR ci) (ckT ci k).2.1 (ckT ci k).2.2.1) {a v : Nat} (ha : mK M a = ci + 1) (hv : mK M v ≠ 0) (hn : narrow (ckY ci k) (.ref v) = .ref v ∧ fits (ckY ci k) (.ref v) = true) (hdg : decode cc pc = .ok (.putfield index, 3))
    (kk : ∀ (H1 : Heap) (locs1 : List Loc), HC g AD (sP M t a 0 v) H1 → va_S AD s.heap H1 locs1 → W p l e R s m args below meth c H1 locs1 cells slots Q (F0 m (pc + 3) ls rest)) : W p l e R s m args below meth c H locs cells slots Q (F0 m pc ls (.ref v :: .ref a :: rest)) :=
  co_putv S hK hH ci k hc hk.1 hk.2.2.1 hk.2.2.2.2 hl ha hn hdg (fun H1 _ hob hz ho => kk H1 _ (co_setP hH hc hk.2.1 hk.2.2.2.1 ha (hH.ne hv) hob hz ho) (hS.put hz ho (hH.2.2 a (by rw [ha]; exact Nat.succ_ne_zero _)).1))
theorem co_putF (S : CallFix p m c cc nL s args lw_all own) (hin : meth.name = "<init>") (hK : KC g s) (hH : HC g AD M H) (hS : va_S AD s.heap H locs) (ci k t : Nat) (hc : ci ∈ ckL) (hk : k < ckN ci ∧ (ckY ci k).isReference = true ∧ (ckT ci k).1 = ckR ci ∧ 100 * (ci + 1) + k = t ∧ (ckT ci k).2.2.2 = true) (h4 : ckR ci = own) {index : Nat} (hl : Cond.fieldLink own index (ckR ci) (ckT ci k).2.1 (ckT ci k).2.2.1 ∈ lw_all) {a v : Nat} (ha : mK M a = ci + 1) (hv : mK M v ≠ 0) (hn : narrow (ckY ci k) (.ref v) = .ref v ∧ fits (ckY ci k) (.ref v) = true) (hdg : decode cc pc = .ok (.putfield index, 3))
    (kk : ∀ (H1 : Heap) (locs1 : List Loc), HC g AD (sP M t a 0 v) H1 → va_S AD s.heap H1 locs1 → W p l e R s m args below meth c H1 locs1 cells slots Q (F0 m (pc + 3) ls rest)) : W p l e R s m args below meth c H locs cells slots Q (F0 m pc ls (.ref v :: .ref a :: rest)) :=
  co_putw S hin hK hH ci k hc hk.1 hk.2.2.1 h4 hk.2.2.2.2 hl ha hn hdg (fun H1 _ hob hz ho => kk H1 _ (co_setP hH hc hk.2.1 hk.2.2.2.1 ha (hH.ne hv) hob hz ho) (hS.put hz ho (hH.2.2 a (by rw [ha]; exact Nat.succ_ne_zero _)).1))
theorem co_bald (S : CallFix p m c cc nL s args lw_all own) (hK : KC g s) (hH : HC g AD M H) (j t : Nat) (hj : j < 9 ∧ aT j = .byte ∧ 20 + j = t) {a : Nat} (ha : mK M a = t) {i : Int32} (hin : vp_in i (aL j)) (hdg : decode cc pc = .ok (.baload, 1))
    (kk : W p l e R s m args below meth c H locs cells slots Q (F0 m (pc + 1) ls (.int (mI M t a i.toNatClampNeg) :: rest))) : W p l e R s m args below meth c H locs cells slots Q (F0 m pc ls (.int i :: .ref a :: rest)) := by
  obtain ⟨h1, h2, rfl⟩ := hj
  have hlt : i.toNatClampNeg < aL j := Nat.not_le.mp fun q => hin (Or.inr q)
  refine W.bald (v := .int (mI M (20 + j) a i.toNatClampNeg)) S.1 S.2.1 (hH.arr h1 ha) (by have := (hK.2.1 j h1).1 (aL j) (coA M j a); rw [h2] at this; exact this) (fun q => by cases q) (by rw [arrV_size]; exact hin) ?_ rfl rfl hdg kk
  rw [arrV_read _ _ hlt]
  simp [coA, h2, FieldType.isReference]
theorem co_iald (S : CallFix p m c cc nL s args lw_all own) (hK : KC g s) (hH : HC g AD M H) (j t : Nat) (hj : j < 9 ∧ aT j = .int ∧ 20 + j = t) {a : Nat} (ha : mK M a = t) {i : Int32} (hin : vp_in i (aL j)) (hdg : decode cc pc = .ok (.iaload, 1))
    (kk : W p l e R s m args below meth c H locs cells slots Q (F0 m (pc + 1) ls (.int (mI M t a i.toNatClampNeg) :: rest))) : W p l e R s m args below meth c H locs cells slots Q (F0 m pc ls (.int i :: .ref a :: rest)) := by
  obtain ⟨h1, h2, rfl⟩ := hj
  have hlt : i.toNatClampNeg < aL j := Nat.not_le.mp fun q => hin (Or.inr q)
  refine W.iald (v := .int (mI M (20 + j) a i.toNatClampNeg)) S.1 S.2.1 (hH.arr h1 ha) (by have := (hK.2.1 j h1).1 (aL j) (coA M j a); rw [h2] at this; exact this) (fun q => by cases q) (by rw [arrV_size]; exact hin) ?_ rfl rfl hdg kk
  rw [arrV_read _ _ hlt]
  simp [coA, h2, FieldType.isReference]
theorem co_aald (S : CallFix p m c cc nL s args lw_all own) (hK : KC g s) (hH : HC g AD M H) (j t : Nat) (hj : j < 9 ∧ (aT j).isReference = true ∧ 20 + j = t) {a : Nat} (ha : mK M a = t) {i : Int32} (hin : vp_in i (aL j)) (hnz : mK M (mP M t a i.toNatClampNeg) ≠ 0) (hdg : decode cc pc = .ok (.aaload, 1))
    (kk : W p l e R s m args below meth c H locs cells slots Q (F0 m (pc + 1) ls (.ref (mP M t a i.toNatClampNeg) :: rest))) : W p l e R s m args below meth c H locs cells slots Q (F0 m pc ls (.int i :: .ref a :: rest)) := by
  obtain ⟨h1, h2, rfl⟩ := hj
  have hlt : i.toNatClampNeg < aL j := Nat.not_le.mp fun q => hin (Or.inr q)
  refine W.aald (v := .ref (mP M (20 + j) a i.toNatClampNeg)) (ty := aT j) S.1 S.2.1 (hH.arr h1 ha) ((hK.2.1 j h1).1 (aL j) (coA M j a)) h2 (fun q => by cases q) (by rw [arrV_size]; exact hin) ?_ rfl rfl hdg kk
  rw [arrV_read _ _ hlt]
  simp [coA, h2, rfV_ne (hH.ne hnz)]
theorem co_setA (hH : HC g AD M H) {j t a i : Nat} {v : Int32} {H1 : Heap} (hj : j < 9) (hr : (aT j).isReference = false) (ht : 20 + j = t) (ha : mK M a = t) (hob : H1[a]? = some (arrV (g.2.2 j) (aL j) (updV (coA M j a) i (.int v)))) (hz : H1.size = H.size) (ho : ∀ q, q ≠ a → H1[q]? = H[q]?) : HC g AD (sI M t a i v) H1 := by
  refine hH.upd a hz ho rfl rfl (fun t' q i hq => by simp [mI, sI, up3, hq]) (fun _ _ _ _ => rfl) (Or.inr ⟨j, hj, by rw [ha, ht], ?_⟩)
  rw [hob]
  subst ht
  congr 2
  funext q
  by_cases hq : q = i
  · subst hq
    simp [updV, coA, hr, mI, sI, up3]
  · simp [updV, coA, mI, mP, sI, up3, hq]
theorem co_setR (hH : HC g AD M H) {j t a i v : Nat} {H1 : Heap} (hj : j < 9) (hr : (aT j).isReference = true) (ht : 20 + j = t) (ha : mK M a = t) (hv : v ≠ 0) (hob : H1[a]? = some (arrV (g.2.2 j) (aL j) (updV (coA M j a) i (.ref v)))) (hz : H1.size = H.size) (ho : ∀ q, q ≠ a → H1[q]? = H[q]?) : HC g AD (sP M t a i v) H1 := by
  refine hH.upd a hz ho rfl rfl (fun _ _ _ _ => rfl) (fun t' q i hq => by simp [mP, sP, up3, hq]) (Or.inr ⟨j, hj, by rw [ha, ht], ?_⟩)
  rw [hob]
  subst ht
  congr 2
  funext q
  by_cases hq : q = i
  · subst hq
    simp [updV, coA, hr, mP, sP, up3, rfV_ne hv]
  · simp [updV, coA, mI, mP, sP, up3, hq]
theorem co_bast (S : CallFix p m c cc nL s args lw_all own) (hK : KC g s) (hH : HC g AD M H) (hS : va_S AD s.heap H locs) (j t : Nat) (hj : j < 9 ∧ aT j = .byte ∧ 20 + j = t) {a : Nat} (ha : mK M a = t) {i v : Int32} (hin : vp_in i (aL j)) (hdg : decode cc pc = .ok (.bastore, 1))
    (kk : ∀ (H1 : Heap) (locs1 : List Loc), HC g AD (sI M t a i.toNatClampNeg v.toInt8.toInt32) H1 → va_S AD s.heap H1 locs1 → W p l e R s m args below meth c H1 locs1 cells slots Q (F0 m (pc + 1) ls rest)) : W p l e R s m args below meth c H locs cells slots Q (F0 m pc ls (.int v :: .int i :: .ref a :: rest)) := by
  obtain ⟨h1, h2, h3⟩ := hj
  refine W.bast S.1 S.2.1 (hH.arr h1 (by rw [ha, h3])) (by have := (hK.2.1 j h1).1 (aL j) (coA M j a); rw [h2] at this; exact this) (fun q => by cases q) (by rw [arrV_size]; exact hin) rfl rfl hdg fun H1 e1 z oq => ?_
  exact kk H1 _ (co_setA hH h1 (by rw [h2]; rfl) h3 ha (by rw [e1, arrV_store]; rfl) z oq) (hS.put z oq (hH.2.2 a (by rw [ha, ← h3]; omega)).1)
theorem co_iast (S : CallFix p m c cc nL s args lw_all own) (hK : KC g s) (hH : HC g AD M H) (hS : va_S AD s.heap H locs) (j t : Nat) (hj : j < 9 ∧ aT j = .int ∧ 20 + j = t) {a : Nat} (ha : mK M a = t) {i v : Int32} (hin : vp_in i (aL j)) (hdg : decode cc pc = .ok (.iastore, 1))
    (kk : ∀ (H1 : Heap) (locs1 : List Loc), HC g AD (sI M t a i.toNatClampNeg v) H1 → va_S AD s.heap H1 locs1 → W p l e R s m args below meth c H1 locs1 cells slots Q (F0 m (pc + 1) ls rest)) : W p l e R s m args below meth c H locs cells slots Q (F0 m pc ls (.int v :: .int i :: .ref a :: rest)) := by
  obtain ⟨h1, h2, h3⟩ := hj
  refine W.iast S.1 S.2.1 (hH.arr h1 (by rw [ha, h3])) (by have := (hK.2.1 j h1).1 (aL j) (coA M j a); rw [h2] at this; exact this) (fun q => by cases q) (by rw [arrV_size]; exact hin) rfl rfl hdg fun H1 e1 z oq => ?_
  exact kk H1 _ (co_setA hH h1 (by rw [h2]; rfl) h3 ha (by rw [e1, arrV_store]) z oq) (hS.put z oq (hH.2.2 a (by rw [ha, ← h3]; omega)).1)
/-- a cell that may stand in an array of kind j -/
def coEl (g : CG) (M : Mm) (j v : Nat) : Prop := (j = 1 ∧ mK M v = 20) ∨ (∃ c, c ∈ ckL ∧ mK M v = c + 1 ∧ aC g j = g.1 c)
theorem co_el (hH : HC g AD M H) {j v : Nat} (h : coEl g M j v) : ∃ cv : Cell, H[v]? = some cv ∧ (∀ q, cv.vm ≠ .statics q) ∧ cv.cls = aC g j := by
  rcases h with ⟨rfl, hk⟩ | ⟨c, hc, hk, he⟩
  · exact ⟨_, hH.arr (j := 0) (by decide) hk, (fun q h => by cases h), rfl⟩
  · obtain ⟨cell, q1, q2, q3, -⟩ := hH.obj hc hk
    exact ⟨cell, q1, (fun q h => by rw [q3] at h; cases h), by rw [q2, he]⟩
theorem coEl.ne {j v : Nat} (h : coEl g M j v) : mK M v ≠ 0 := by
  rcases h with ⟨rfl, hk⟩ | ⟨c, hc, hk, he⟩ <;> omega
theorem co_aast (S : CallFix p m c cc nL s args lw_all own) (hK : KC g s) (hH : HC g AD M H) (hS : va_S AD s.heap H locs) (j t : Nat) (hj : j < 9 ∧ (aT j).isReference = true ∧ 20 + j = t) {a v : Nat} (ha : mK M a = t) (hv : coEl g M j v) {i : Int32} (hin : vp_in i (aL j)) (hdg : decode cc pc = .ok (.aastore, 1))
    (kk : ∀ (H1 : Heap) (locs1 : List Loc), HC g AD (sP M t a i.toNatClampNeg v) H1 → va_S AD s.heap H1 locs1 → W p l e R s m args below meth c H1 locs1 cells slots Q (F0 m (pc + 1) ls rest)) : W p l e R s m args below meth c H locs cells slots Q (F0 m pc ls (.ref v :: .int i :: .ref a :: rest)) := by
  obtain ⟨h1, h2, h3⟩ := hj
  have hlt : i.toNatClampNeg < aL j := Nat.not_le.mp fun q => hin (Or.inr q)
  have h0 : ¬ i < 0 := fun q => hin (Or.inl q)
  obtain ⟨⟨kA, a1, a2⟩, ⟨kE, a3⟩, a4⟩ := hK.2.2.1 j h1 h2
  obtain ⟨cv, v1, v2, v3⟩ := co_el hH hv
  refine W.aast S.1 S.2.1 (hH.arr h1 (by rw [ha, h3])) (fun q h => by cases h) (fun h => by cases h) a1 a2 h2 a3 ⟨h0, by rw [arrV_size]; exact hlt⟩ v1 v2 (by rw [v3]; exact a3) (by rw [v3]; exact a4) rfl rfl hdg fun H1 e1 z oq => ?_
  exact kk H1 _ (co_setR hH h1 h2 h3 ha (hH.ne hv.ne) (by rw [e1, arrV_store]) z oq) (hS.put z oq (hH.2.2 a (by rw [ha, ← h3]; omega)).1)
theorem co_alen (S : CallFix p m c cc nL s args lw_all own) (hK : KC g s) (hH : HC g AD M H) (j t : Nat) (hj : j < 9 ∧ 20 + j = t) {a : Nat} (ha : mK M a = t) {v : Int32} (hv : Int32.ofNat (aL j) = v) (hdg : decode cc pc = .ok (.arraylength, 1))
    (kk : W p l e R s m args below meth c H locs cells slots Q (F0 m (pc + 1) ls (.int v :: rest))) : W p l e R s m args below meth c H locs cells slots Q (F0 m pc ls (.ref a :: rest)) := by
  obtain ⟨h1, h3⟩ := hj
  exact W.alen (n := v) S.1 S.2.1 (hH.arr h1 (by rw [ha, h3])) ((hK.2.1 j h1).1 (aL j) (coA M j a)) (by rw [arrV_size]; exact hv) rfl rfl hdg kk
theorem co_new (S : CallFix p m c cc nL s args lw_all own) (hK : KC g s) (hH : HC g AD M H) (hS : va_S AD s.heap H locs) (hA : ∀ q, s.heap.size ≤ q → AD q) (ci K : Nat) (hc : ci ∈ ckL) (hKe : K = ci + 1) {index : Nat} (hcl : Cond.classLink own index (ckR ci) ∈ lw_all) (hinst : Cond.instantiable (ckR ci) (ckN ci) ∈ lw_all) (hini : Cond.initialized (ckR ci) ∈ lw_all) (hd : ∀ k, k < ckN ci → defaultValue (ckY ci k) = (if (ckY ci k).isReference = true then Value.null else .int 0)) (hcells : cells + 1 ≤ R.cells) (hslots : slots + ckN ci ≤ R.slots) (hdg : decode cc pc = .ok (.new index, 3))
    (kk : ∀ (H1 : Heap), HC g AD (sN M K) H1 → va_S AD s.heap H1 locs → W p l e R s m args below meth c H1 locs (cells + 1) (slots + ckN ci) Q (F0 m (pc + 3) ls (.ref (mZ M) :: rest))) : W p l e R s m args below meth c H locs cells slots Q (F0 m pc ls rest) := by
  obtain ⟨hx, hb, -, hown, hts⟩ := S
  have hKn := hK.1 ci hc
  have hz : mZ M = H.size := hH.1.symm
  refine W.newcK hx hb hown (hts _ hcl) (hts _ hinst) (hts _ hini) rfl hdg hcells hslots hKn.2.1 rfl fun H1 kC hkC e1 z1 o1 => ?_
  rw [← hz]
  refine kk H1 (hH.push K z1 o1 (hA _ hS.1) (Or.inl ⟨ci, hc, hKe, (u_born (ckY ci) hts (ck_in ci hc) hKn hkC e1 (ck_ty ci hc)).to (fun k hk => ?_)⟩)) ⟨Nat.le_trans hS.1 (by omega), fun x h1 h2 => (o1 x (Nat.lt_of_lt_of_le h1 hS.1)).trans (hS.2.1 x h1 h2), hS.2.2⟩
  rw [hd k hk]
  simp [coV, mI, mP, sN, ← hz, mZ, rfV]
theorem co_newp (S : CallFix p m c cc nL s args lw_all own) (hK : KC g s) (hH : HC g AD M H) (hS : va_S AD s.heap H locs) (hA : ∀ q, s.heap.size ≤ q → AD q) (j K : Nat) {atype : ArrayType} (hj : j < 9 ∧ aT j = newarray.typeOf atype ∧ K = 20 + j ∧ (aT j).isReference = false ∧ defaultValue (aT j) = .int 0) (harr : Cond.arrayClass (newarray.typeOf atype) ∈ lw_all) {n : Int32} (hn : ¬ n < 0 ∧ n.toNatClampNeg = aL j) (hbytes : aL j * componentBytes (newarray.typeOf atype) ≤ 536870912) (hcells : cells + 1 ≤ R.cells) (hslots : slots + aL j ≤ R.slots) (hdg : decode cc pc = .ok (.newarray atype, 2))
    (kk : ∀ (H1 : Heap), HC g AD (sN M K) H1 → va_S AD s.heap H1 locs → W p l e R s m args below meth c H1 locs (cells + 1) (slots + aL j) Q (F0 m (pc + 2) ls (.ref (mZ M) :: rest))) : W p l e R s m args below meth c H locs cells slots Q (F0 m pc ls (.int n :: rest)) := by
  obtain ⟨hx, hb, -, hown, hts⟩ := S
  obtain ⟨h1, h2, h3, h4, h5⟩ := hj
  have hz : mZ M = H.size := hH.1.symm
  refine va_newaK hx hb (hts _ harr) rfl hdg rfl hn.1 hn.2 hbytes hcells hslots rfl fun H1 cA e1 z1 o1 hAr hNm => ?_
  rw [← hz]
  have hcA : cA = g.2.2 j := by
    have := (hK.2.1 j h1).2
    rw [h2] at this
    exact Option.some.inj (hNm.symm.trans this)
  refine kk H1 (hH.push K z1 o1 (hA _ hS.1) (Or.inr ⟨j, h1, h3, ?_⟩)) ⟨Nat.le_trans hS.1 (by omega), fun x h1 h2 => (o1 x (Nat.lt_of_lt_of_le h1 hS.1)).trans (hS.2.1 x h1 h2), hS.2.2⟩
  rw [e1, hcA]
  congr 2
  funext q
  rw [← h2, h5]
  simp [coA, h4, mI, sN, ← hz, mZ]
theorem co_newq (S : CallFix p m c cc nL s args lw_all own) (hK : KC g s) (hH : HC g AD M H) (hS : va_S AD s.heap H locs) (hA : ∀ q, s.heap.size ≤ q → AD q) (j K : Nat) {C : String} (hj : j < 9 ∧ aT j = .object C ∧ K = 20 + j) {index : Nat} (hcl : Cond.classLink own index C ∈ lw_all) (hover : va_AO C s) {n : Int32} (hn : ¬ n < 0 ∧ n.toNatClampNeg = aL j) (hbytes : aL j * 4 ≤ 536870912) (hcells : cells + 1 ≤ R.cells) (hslots : slots + aL j ≤ R.slots) (hdg : decode cc pc = .ok (.anewarray index, 3))
    (kk : ∀ (H1 : Heap), HC g AD (sN M K) H1 → va_S AD s.heap H1 locs → W p l e R s m args below meth c H1 locs (cells + 1) (slots + aL j) Q (F0 m (pc + 3) ls (.ref (mZ M) :: rest))) : W p l e R s m args below meth c H locs cells slots Q (F0 m pc ls (.int n :: rest)) := by
  obtain ⟨hx, hb, -, hown, hts⟩ := S
  obtain ⟨h1, h2, h3⟩ := hj
  have hz : mZ M = H.size := hH.1.symm
  refine W.anew hx hb hown (hts _ hcl) (va_AO.use hover) rfl hdg rfl hn.1 (by rw [hn.2]; exact hbytes) hcells (by rw [hn.2]; exact hslots) fun cA kA comp f1 f2 f3 f4 => ?_
  rw [hn.2]
  generalize hH1 : H.push ({ cls := cA, slots := Array.replicate (aL j) .null, vm := .none } : Cell) = H1
  have z1 : H1.size = H.size + 1 := by rw [← hH1, Array.size_push]
  have e1 : H1[H.size]? = some (arrV cA (aL j) (fun _ => .null)) := by rw [← hH1, Array.getElem?_push_size, ← arrV_new]
  have o1 : ∀ q : Nat, q < H.size → H1[q]? = H[q]? := fun q hq => by rw [← hH1, Array.getElem?_push, if_neg (Nat.ne_of_lt hq)]
  have hcA : cA = g.2.2 j := by
    have := (hK.2.1 j h1).2
    rw [h2] at this
    exact Option.some.inj (f1.symm.trans this)
  rw [← hz]
  refine kk H1 (hH.push K z1 o1 (hA _ hS.1) (Or.inr ⟨j, h1, h3, ?_⟩)) ⟨Nat.le_trans hS.1 (by omega), fun x h1 h2 => (o1 x (Nat.lt_of_lt_of_le h1 hS.1)).trans (hS.2.1 x h1 h2), hS.2.2⟩
  rw [e1, hcA]
  congr 2
  funext q
  simp [coA, h2, FieldType.isReference, mP, sN, ← hz, mZ, rfV]
theorem co_nn {z : Int32} (hz : ¬ z < 0) : z.toInt = (z.toNatClampNeg : Int) := by
  have hz0 : (0 : Int) ≤ z.toInt := by
    have := Int32.not_lt.mp hz
    simpa using Int32.le_iff_toInt_le.mp this
  show z.toInt = ((z.toInt.toNat : Nat) : Int)
  omega
/-- System.arraycopy between two arrays of one kind -/
theorem co_copy (S : CallFix p m c cc nL s args lw_all own) (hK : KC g s) (hH : HC g AD M H) (hS : va_S AD s.heap H locs) (hsz : ls.size = nL) (j : Nat) (h1 : j < 9) {a b : Nat} (ha : mK M a = 20 + j) (hb0 : mK M b = 20 + j) {index : Nat} (hlink : Cond.methodLink own index arraycopyName ∈ lw_all) (hnat : Cond.native arraycopyName ∈ lw_all) (hstat : Cond.static arraycopyName ∈ lw_all) (hini : Cond.initialized "java/lang/System" ∈ lw_all)
    {sp dp n : Int32} (g1 : ¬ sp < 0) (g2 : ¬ dp < 0) (g3 : ¬ n < 0) (g4 : sp.toNatClampNeg + n.toNatClampNeg ≤ aL j) (g5 : dp.toNatClampNeg + n.toNatClampNeg ≤ aL j)
    (hel : ∀ i : Nat, i < n.toNatClampNeg → ∀ vm' : Vm, s.vm.Alike vm' → ∀ T : State, T.heap = H → fits (aT j) (coA M j a (sp.toNatClampNeg + i)) = true ∧ (∀ kA comp, s.vm.classes[g.2.2 j]? = some kA → kA.kind = .array comp (aT j) → (T.setVm vm').takes comp (coA M j a (sp.toNatClampNeg + i))))
    (hframes : 1 ≤ R.frames) (hlocals : (rest.map fun v => v.category).sum + (nativeFrameWords "java/lang/System" "arraycopy" 5 + 11) ≤ R.locals) (hdg : decode cc pc = .ok (.invokestatic index, 3))
    (kk : ∀ (H1 : Heap) (locs1 : List Loc), H1[b]? = some (arrV (g.2.2 j) (aL j) (va_cpy (coA M j a) (coA M j b) sp.toNatClampNeg dp.toNatClampNeg n.toNatClampNeg)) → H1.size = H.size → (∀ q, q ≠ b → H1[q]? = H[q]?) → va_S AD s.heap H1 locs1 → W p l e R s m args below meth c H1 locs1 cells slots Q (F0 m (pc + 3) ls rest)) : W p l e R s m args below meth c H locs cells slots Q (F0 m pc ls (.int n :: .int dp :: .ref b :: .int sp :: .ref a :: rest)) := by
  obtain ⟨hx, hb, hml, hown, hts⟩ := S
  intro T hT X
  have hc0 := hH.arr h1 ha
  have hc1 := hH.arr h1 hb0
  obtain ⟨-, k0, hk0, cm0, hkk0⟩ := (hK.2.1 j h1).1 (aL j) (coA M j a)
  obtain ⟨vm', X', step⟩ := X.arraycopy hx hown (hts _ hlink) (hts _ hnat) (hts _ hstat) (hts _ hini) (src := a) (dst := b) (cs := arrV (g.2.2 j) (aL j) (coA M j a)) (cd := arrV (g.2.2 j) (aL j) (coA M j b)) (srcPos := sp) (destPos := dp) (n := n) (by rw [hT]; exact hc0) (by rw [hT]; exact hc1)
    (fun _ h => by cases h) (fun _ h => by cases h) (fun h => by cases h) (fun h => by cases h) hk0 hk0 hkk0 hkk0 (by simp) g1 g2 g3
    (by rw [co_nn g1, co_nn g3, arrV_size]; omega)
    (by rw [co_nn g2, co_nn g3, arrV_size]; omega)
    (fun vm₁ hal i hi => by
      have e : (arrV (g.2.2 j) (aL j) (coA M j a)).slots.getD (sp.toNatClampNeg + i) .null = coA M j a (sp.toNatClampNeg + i) := by
        rw [Array.getD_eq_getD_getElem?, arrV_read _ _ (by omega)]
        rfl
      rw [e]
      obtain ⟨u1, u2⟩ := hel i hi vm₁ hal T hT
      exact ⟨u1, u2 _ _ hk0 hkk0⟩)
    (g := F0 m pc ls (.int n :: .int dp :: .ref b :: .int sp :: .ref a :: rest)) rfl (by rw [hml]; exact hsz) (rest := rest) rfl (by rw [hb]; exact hdg) hframes (by show 2 * 0 + _ + _ ≤ _; omega)
  have e1 : copied (arrV (g.2.2 j) (aL j) (coA M j a)) (arrV (g.2.2 j) (aL j) (coA M j b)) sp dp n = arrV (g.2.2 j) (aL j) (va_cpy (coA M j a) (coA M j b) sp.toNatClampNeg dp.toNatClampNeg n.toNatClampNeg) := va_copied (fun z => z) _ _ (coA M j a) (coA M j b) g4
  rw [e1] at X' step
  have hl : b < H.size := (Array.getElem?_eq_some_iff.mp hc1).1
  generalize hy : arrV (g.2.2 j) (aL j) (va_cpy (coA M j a) (coA M j b) sp.toNatClampNeg dp.toNatClampNeg n.toNatClampNeg) = cy at kk X' step
  have hheap : ((T.setVm vm').setCell b cy).heap = H.setIfInBounds b cy := by rw [← hT]; rfl
  have oq : ∀ q : Nat, q ≠ b → (H.setIfInBounds b cy)[q]? = H[q]? := fun q hq => by simp [Array.getElem?_setIfInBounds, Ne.symm hq]
  obtain ⟨t, a1, b1⟩ := kk (H.setIfInBounds b cy) _ (by simp [Array.getElem?_setIfInBounds, hl]) (by simp) oq ⟨by simp; exact hS.1, fun q y1 y2 => by
      rw [oq q (fun e => y2 (by rw [e]; exact (hH.2.2 b (by omega)).1))]
      exact hS.2.1 q y1 y2, fun q hq => by
      rcases List.mem_append.mp hq with h | h
      · exact hS.2.2 q h
      · obtain ⟨z, -, hz⟩ := List.mem_map.mp h
        rw [← hz]
        exact (hH.2.2 b (by omega)).1⟩ _ hheap X'
  exact ⟨t, step t a1, b1⟩
theorem co_copyb (S : CallFix p m c cc nL s args lw_all own) (hK : KC g s) (hH : HC g AD M H) (hS : va_S AD s.heap H locs) (hsz : ls.size = nL) (j t : Nat) (hj : j < 9 ∧ aT j = .byte ∧ 20 + j = t) {a b : Nat} (ha : mK M a = t) (hb0 : mK M b = t) {index : Nat} (hlink : Cond.methodLink own index arraycopyName ∈ lw_all) (hnat : Cond.native arraycopyName ∈ lw_all) (hstat : Cond.static arraycopyName ∈ lw_all) (hini : Cond.initialized "java/lang/System" ∈ lw_all)
    {sp dp n : Int32} (g1 : ¬ sp < 0) (g2 : ¬ dp < 0) (g3 : ¬ n < 0) (g4 : sp.toNatClampNeg + n.toNatClampNeg ≤ aL j) (g5 : dp.toNatClampNeg + n.toNatClampNeg ≤ aL j) (hfit : ∀ i : Nat, i < n.toNatClampNeg → fits .byte (.int (mI M t a (sp.toNatClampNeg + i))) = true)
    (hframes : 1 ≤ R.frames) (hlocals : (rest.map fun v => v.category).sum + (nativeFrameWords "java/lang/System" "arraycopy" 5 + 11) ≤ R.locals) (hdg : decode cc pc = .ok (.invokestatic index, 3))
    (kk : ∀ (H1 : Heap) (locs1 : List Loc), HC g AD (cI M t a b sp.toNatClampNeg dp.toNatClampNeg n.toNatClampNeg) H1 → va_S AD s.heap H1 locs1 → W p l e R s m args below meth c H1 locs1 cells slots Q (F0 m (pc + 3) ls rest)) : W p l e R s m args below meth c H locs cells slots Q (F0 m pc ls (.int n :: .int dp :: .ref b :: .int sp :: .ref a :: rest)) := by
  obtain ⟨h1, h2, rfl⟩ := hj
  refine co_copy S hK hH hS hsz j h1 ha hb0 hlink hnat hstat hini g1 g2 g3 g4 g5 (fun i hi vm' hal T hT => ?_) hframes hlocals hdg (fun H1 locs1 e1 z oq hS => kk H1 locs1 (hH.upd b z oq rfl rfl (fun t' q i hq => by simp [mI, cI, cp3, hq]) (fun _ _ _ _ => rfl) (Or.inr ⟨j, h1, hb0, ?_⟩)) hS)
  · have e : coA M j a (sp.toNatClampNeg + i) = .int (mI M (20 + j) a (sp.toNatClampNeg + i)) := by simp [coA, h2, FieldType.isReference]
    rw [e, h2]
    exact ⟨hfit i hi, fun _ _ _ _ => trivial⟩
  · rw [e1]
    congr 2
    funext q
    simp only [va_cpy, coA, h2, FieldType.isReference, mI, cI, cp3, true_and]
    by_cases hq : dp.toNatClampNeg ≤ q ∧ q < dp.toNatClampNeg + n.toNatClampNeg
    · simp [hq]
    · simp [hq]
theorem co_copyr (S : CallFix p m c cc nL s args lw_all own) (hK : KC g s) (hH : HC g AD M H) (hS : va_S AD s.heap H locs) (hsz : ls.size = nL) (j t : Nat) (hj : j < 9 ∧ (aT j).isReference = true ∧ 20 + j = t) {a b : Nat} (ha : mK M a = t) (hb0 : mK M b = t) {index : Nat} (hlink : Cond.methodLink own index arraycopyName ∈ lw_all) (hnat : Cond.native arraycopyName ∈ lw_all) (hstat : Cond.static arraycopyName ∈ lw_all) (hini : Cond.initialized "java/lang/System" ∈ lw_all)
    {sp dp n : Int32} (g1 : ¬ sp < 0) (g2 : ¬ dp < 0) (g3 : ¬ n < 0) (g4 : sp.toNatClampNeg + n.toNatClampNeg ≤ aL j) (g5 : dp.toNatClampNeg + n.toNatClampNeg ≤ aL j) (hel : ∀ i : Nat, i < n.toNatClampNeg → coEl g M j (mP M t a (sp.toNatClampNeg + i)))
    (hfr : ∀ v : Nat, fits (aT j) (.ref v) = true) (hframes : 1 ≤ R.frames) (hlocals : (rest.map fun v => v.category).sum + (nativeFrameWords "java/lang/System" "arraycopy" 5 + 11) ≤ R.locals) (hdg : decode cc pc = .ok (.invokestatic index, 3))
    (kk : ∀ (H1 : Heap) (locs1 : List Loc), HC g AD (cP M t a b sp.toNatClampNeg dp.toNatClampNeg n.toNatClampNeg) H1 → va_S AD s.heap H1 locs1 → W p l e R s m args below meth c H1 locs1 cells slots Q (F0 m (pc + 3) ls rest)) : W p l e R s m args below meth c H locs cells slots Q (F0 m pc ls (.int n :: .int dp :: .ref b :: .int sp :: .ref a :: rest)) := by
  obtain ⟨h1, h2, rfl⟩ := hj
  refine co_copy S hK hH hS hsz j h1 ha hb0 hlink hnat hstat hini g1 g2 g3 g4 g5 (fun i hi vm' hal T hT => ?_) hframes hlocals hdg (fun H1 locs1 e1 z oq hS => kk H1 locs1 (hH.upd b z oq rfl rfl (fun _ _ _ _ => rfl) (fun t' q i hq => by simp [mP, cP, cp3, hq]) (Or.inr ⟨j, h1, hb0, ?_⟩)) hS)
  · have hv := hel i hi
    have e : coA M j a (sp.toNatClampNeg + i) = .ref (mP M (20 + j) a (sp.toNatClampNeg + i)) := by simp [coA, h2, rfV_ne (hH.ne hv.ne)]
    rw [e]
    refine ⟨hfr _, fun kA comp k1 k2 => ?_⟩
    obtain ⟨⟨kA', a1, a2⟩, ⟨kE, a3⟩, a4⟩ := hK.2.2.1 j h1 h2
    cases k1.symm.trans a1
    have hcomp : comp = aC g j := by rw [k2] at a2; injection a2
    subst hcomp
    obtain ⟨cv, v1, v2, v3⟩ := co_el hH hv
    obtain ⟨kE', hkE', -⟩ := hal.2.2 _ _ a3
    refine ⟨cv, (show T.heap[_]? = some cv by rw [hT]; exact v1), v2, ⟨kE', by rw [v3]; exact hkE'⟩, ⟨kE', hkE'⟩, ?_⟩
    show vm'.assignable _ _ = true
    rw [hal.assignable, v3]
    exact a4
  · rw [e1]
    congr 2
    funext q
    simp only [va_cpy, coA, h2, mP, cP, cp3, true_and]
    by_cases hq : dp.toNatClampNeg ≤ q ∧ q < dp.toNatClampNeg + n.toNatClampNeg
    · simp [hq]
    · simp [hq]
theorem co_pre (hK : KC g s) (hH : HC g AD M H) (hA : ∀ q, s.heap.size ≤ q → AD q) (hS : va_S AD s.heap H locs) {av : List Value} : ∀ U : State, U.heap = H → s.WarmedH U.vm → CPc g AD M av av.toArray U := fun U hU hW => ⟨rfl, hK.warm hW, by rw [hU]; exact hH, fun q hq => hA q (Nat.le_trans hS.1 (by rw [hU] at hq; exact hq))⟩
variable {st0 : List Value} {a0 : Array Value} {mc ms : Nat}
theorem co_callv {post : Mm → Prop} (hr : va_Run p l e R s m args below meth c H locs cells slots mc ms (F0 m pc ls st0) rest (CQv g AD M post a0) AD) (hS : va_S AD s.heap H locs)
    (kk : ∀ (M' : Mm) (H' : Heap) (locs' : List Loc), post M' → HC g AD M' H' → Ext M M' → va_S AD s.heap H' locs' → W p l e R s m args below meth c H' locs' (cells + mc) (slots + ms) Q (F0 m (pc + 3) ls rest)) : W p l e R s m args below meth c H locs cells slots Q (F0 m pc ls st0) :=
  va_callv hr hS (fun _ _ h => h) (fun _ h => h) (fun u t H1 locs1 ht hvm hp hB hz hk hS => kk u H1 locs1 hp (by rw [← ht]; exact hB.1) hB.2 hS)
theorem co_calli {post : Int32 → Mm → Prop} (hr : va_Run p l e R s m args below meth c H locs cells slots mc ms (F0 m pc ls st0) rest (CQi g AD M post a0) AD) (hS : va_S AD s.heap H locs)
    (kk : ∀ (r : Int32) (M' : Mm) (H' : Heap) (locs' : List Loc), post r M' → HC g AD M' H' → Ext M M' → va_S AD s.heap H' locs' → W p l e R s m args below meth c H' locs' (cells + mc) (slots + ms) Q (F0 m (pc + 3) ls (.int r :: rest))) : W p l e R s m args below meth c H locs cells slots Q (F0 m pc ls st0) :=
  va_calli hr hS (fun _ _ h => h) (fun _ h => h) (fun r u t H1 locs1 ht hvm hp hB hz hk hS => kk r u H1 locs1 hp (by rw [← ht]; exact hB.1) hB.2 hS)
theorem co_callr {K : Nat → Prop} {post : Nat → Mm → Prop} (hr : va_Run p l e R s m args below meth c H locs cells slots mc ms (F0 m pc ls st0) rest (CQr g AD M K post a0) AD) (hS : va_S AD s.heap H locs)
    (kk : ∀ (r : Nat) (M' : Mm) (H' : Heap) (locs' : List Loc), post r M' → HC g AD M' H' → Ext M M' → K (mK M' r) → va_S AD s.heap H' locs' → W p l e R s m args below meth c H' locs' (cells + mc) (slots + ms) Q (F0 m (pc + 3) ls (.ref r :: rest))) : W p l e R s m args below meth c H locs cells slots Q (F0 m pc ls st0) :=
  va_callr hr hS (fun _ _ h => h) (fun _ h => h) (fun u ra t H1 locs1 ht hvm hp hB hz hk hS => kk ra u H1 locs1 hB.2.2.2 (by rw [← ht]; exact hB.1) hB.2.1 hB.2.2.1 hS)
variable {M0 : Mm}
theorem co_iret {post : Int32 → Mm → Prop} (S : CallFix p m c cc nL s args lw_all own) (hr : meth.sig.returnType = some .int) (hlocks : meth.locks = false) (hH : HC g AD M H) (hE : Ext M0 M) (hS : va_S AD s.heap H locs) {v : Int32} (hp : post v M) (hdg : decode cc pc = .ok (.ireturn, 1)) :
    W p l e R s m args below meth c H locs cells slots (MQ below (CQi g AD M0 post) args s cells slots AD) (F0 m pc ls [.int v]) :=
  W.iret (v := v) S.1 S.2.1 hr (fun t ht hW => ⟨⟨v, M, rfl, hp, by show HC g AD M t.heap ∧ _; rw [ht]; exact ⟨hH, hE⟩⟩, hS.F ht⟩) hS.2.2 hdg hlocks
theorem co_zret {post : Int32 → Mm → Prop} (S : CallFix p m c cc nL s args lw_all own) (hr : meth.sig.returnType = some .boolean) (hlocks : meth.locks = false) (hH : HC g AD M H) (hE : Ext M0 M) (hS : va_S AD s.heap H locs) {v : Int32} (hn : narrow .boolean (.int v) = .int v) (hp : post v M) (hdg : decode cc pc = .ok (.ireturn, 1)) :
    W p l e R s m args below meth c H locs cells slots (MQ below (CQi g AD M0 post) args s cells slots AD) (F0 m pc ls [.int v]) :=
  W.zret (v := v) S.1 S.2.1 hr hn (fun t ht hW => ⟨⟨v, M, rfl, hp, by show HC g AD M t.heap ∧ _; rw [ht]; exact ⟨hH, hE⟩⟩, hS.F ht⟩) hS.2.2 hdg hlocks
theorem co_vret {post : Mm → Prop} (S : CallFix p m c cc nL s args lw_all own) (hr : meth.sig.returnType = none) (hlocks : meth.locks = false) (hH : HC g AD M H) (hE : Ext M0 M) (hS : va_S AD s.heap H locs) (hp : post M) (hdg : decode cc pc = .ok (.return_, 1)) :
    W p l e R s m args below meth c H locs cells slots (MQ below (CQv g AD M0 post) args s cells slots AD) (F0 m pc ls []) :=
  W.vret S.1 S.2.1 hr (fun t ht hW => ⟨⟨M, rfl, hp, by show HC g AD M t.heap ∧ _; rw [ht]; exact ⟨hH, hE⟩⟩, hS.F ht⟩) hS.2.2 hdg hlocks
theorem co_aret {K : Nat → Prop} {post : Nat → Mm → Prop} {C : String} (S : CallFix p m c cc nL s args lw_all own) (hr : meth.sig.returnType = some (.object C)) (hlocks : meth.locks = false) (hH : HC g AD M H) (hE : Ext M0 M) (hS : va_S AD s.heap H locs) {v : Nat} (hk : K (mK M v)) (hp : post v M) (hdg : decode cc pc = .ok (.areturn, 1)) :
    W p l e R s m args below meth c H locs cells slots (MQ below (CQr g AD M0 K post) args s cells slots AD) (F0 m pc ls [.ref v]) :=
  W.aret S.1 S.2.1 hr (Or.inl ⟨C, rfl⟩) (Or.inr ⟨v, rfl⟩) (fun t ht hW => ⟨⟨M, v, rfl, trivial, by show HC g AD M t.heap ∧ _; rw [ht]; exact ⟨hH, hE, hk, hp⟩⟩, hS.F ht⟩) hS.2.2 hdg hlocks
end COW
