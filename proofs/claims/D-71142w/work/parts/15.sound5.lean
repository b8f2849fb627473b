/-! SOUNDNESS: fields, statics -/
/-- what the tables say of a class -/
def ClsZ (ci : Nat) (C : String) (T : u_T) (N : Nat) (ty : Nat → FieldType) : Prop :=
  zCl[ci]? = some (C, T, N) ∧ (∀ w ∈ u_ws C T N, w ∈ lw_all) ∧ (∀ k, k < N → parseFieldDescriptor (T k).2.2.1 = some (ty k)) ∧ (∀ a, a < N → ∀ b, b < N → a ≠ b → (T a).2.1 ≠ (T b).2.1) ∧ ci < 16 ∧ (fidL.getD ci []).length = N
/-- a field's entry, for objects of the class ci: its place k -/
def FkZ (own : String) (idx f ci k : Nat) (C : String) (T : u_T) (N : Nat) (ty : Nat → FieldType) : Prop :=
  ClsZ ci C T N ty ∧ k < N ∧ fid ci k = f ∧ ∃ ref, ((Cond.fieldLink own idx ref (T k).2.1 (T k).2.2.1 ∈ lw_all) ∨ ∃ host, Cond.fieldLinkNest own idx ref (T k).2.1 (T k).2.2.1 host ∈ lw_tbl) ∧ (ref = (T k).1 ∨ Cond.sameField ref (T k).1 (T k).2.1 (T k).2.2.1 ∈ lw_all)
section FIELDS
variable {mi : MI} {pc : Nat}
theorem s_getf {idx f : Nat} {ks : List Nat} (hd : decode mi.1 pc = .ok (.getfield idx, 3)) (hk : ∀ k ∈ ks, ∃ ci j C T N ty, k = ci + 1 ∧ FkZ mi.2.2.2.1 idx f ci j C T N ty) : SiZ mi pc (i_getf f ks (pc + 3)) := by
  intro D cA z p l e R s m args below meth c K hC ls st h o hll ho hO
  simp only [i_getf] at ho
  split at ho
  · rename_i a st'
    split at ho
    · rename_i hg
      cases ho
      intro H locs cells slots lsr h1 h2 h3 h4 h5
      obtain ⟨ci, j, C, T, N, ty, e1, ⟨hc, hin, hty, hnm, -, -⟩, hj, hf, ref, hlink, hsame⟩ := hk _ hg
      obtain ⟨-, cell, q1, q2, q3, q4⟩ := (h1.2.2.2.2.1 a).1 ci _ hc e1
      obtain ⟨hx, hb, -, -, hown, -, -, -, -, -, hcx⟩ := hC
      obtain ⟨hS, hfc, kC, hkC, hkind⟩ := hcx.2.2.1.1 ci _ hc
      obtain ⟨cf, kf, fi, fd, hi, hsl⟩ := hS j hj
      have hts : ∀ w ∈ lw_all, w.before args s = true := fun w hw => hcx.1 w hw args
      have hi' : s.fieldFound? ref (T j).2.1 (T j).2.2.1 = some (cf, kf, fi, fd) := by
        rcases hsame with rfl | hs
        · exact hi
        · exact u_same (hts _ hs) _ hi
      have hv : cell.slots[fd.slot]? = some (gF h f a) := by rw [hsl, q4 j hj, ← hf]
      have hst := (u_facts hfc hkC (u_lays hts hin hj) hi).1
      rcases hlink with hlk | ⟨host, hlk⟩
      · exact W.getf hx hb hown (hts _ hlk) hi' hst q1 (by rw [q3]; exact fun w => by cases w) hv rfl rfl hd (hO hll H locs cells slots lsr h1 h2 h3 h4 h5)
      · exact va_Wgetf hx hb hown (va_Nw.use rfl (hcx.2.1 _ hlk rfl)) hi' hst q1 (by rw [q3]; exact fun w => by cases w) hv rfl rfl hd (hO hll H locs cells slots lsr h1 h2 h3 h4 h5)
    · cases ho
  · cases ho
/-- a field of the one String constant -/
theorem s_getfS {idx f : Nat} {n d : String} (hd : decode mi.1 pc = .ok (.getfield idx, 3)) (hf : (f = 165 ∧ n = "value" ∧ d = "[B") ∨ (f = 166 ∧ n = "coder" ∧ d = "B")) (hlink : Cond.fieldLink mi.2.2.2.1 idx "java/lang/String" n d ∈ lw_all) : SiZ mi pc (i_getf f [60] (pc + 3)) := by
  intro D cA z p l e R s m args below meth c K hC ls st h o hll ho hO
  simp only [i_getf] at ho
  split at ho
  · rename_i a st'
    split at ho
    · rename_i hg
      cases ho
      intro H locs cells slots lsr h1 h2 h3 h4 h5
      obtain ⟨-, -, q3, q4⟩ := (h1.2.2.2.2.1 a).2.2.2.2.2.1 (List.mem_singleton.mp hg)
      obtain ⟨hx, hb, -, -, hown, -, -, -, -, -, hcx⟩ := hC
      have hv : va_OF "java/lang/String" n d (gF h f a) a (fun q => z ≤ q) s H := by
        rcases hf with ⟨rfl, rfl, rfl⟩ | ⟨rfl, rfl, rfl⟩
        · exact q3
        · exact q4
      obtain ⟨cf, k, i, fd, cell, f1, f2, f3, f4, f5, -⟩ := hv
      exact W.getf hx hb hown (hcx.1 _ hlink _) f1 f2 f3 f4 f5 rfl rfl hd (hO hll H locs cells slots lsr h1 h2 h3 h4 h5)
    · cases ho
  · cases ho
theorem fid_ne {ci j k N : Nat} (hci : ci < 16) (hl : (fidL.getD ci []).length = N) (hj : j < N) (hk : k < N) (h : j ≠ k) : fid ci j ≠ fid ci k := fun q => h (fid_inj ci hci j (by omega) k (by omega) q)
/-- any write of a field -/
theorem putZ {idx f ci j : Nat} {C : String} {T : u_T} {N : Nat} {ty : Nat → FieldType} {v : Value} (hd : decode mi.1 pc = .ok (.putfield idx, 3)) (hF : FkZ mi.2.2.2.1 idx f ci j C T N ty) (hl : ∃ ref, Cond.fieldLink mi.2.2.2.1 idx ref (T j).2.1 (T j).2.2.1 ∈ lw_all ∧ (ref = (T j).1 ∨ Cond.sameField ref (T j).1 (T j).2.1 (T j).2.2.1 ∈ lw_all)) (hfin : (T j).2.2.2 = false ∨ ((T j).2.2.2 = true ∧ mi.2.2.2.2.1 = "<init>" ∧ (T j).1 = mi.2.2.2.1)) (hn : narrow (ty j) v = v) (hfit : fits (ty j) v = true)
    {D : va_G} {cA : Nat → ClassId} {z : Nat} {p : Program} {l : Launch} {e : Env} {R : Room} {s : State} {m : MethodId} {args : Array Value} {below : List Frame} {meth : Method} {c : Code} {K : Po} (hC : CtZ mi D cA p R s m meth c) {ls st : List Value} {h : Hp} {a : Nat} (hk : gK h a = ci + 1)
    (hO : PwZ D cA z p l e R s m args below meth c K (pc + 3, ls, st, pF h f a v)) : PwZ D cA z p l e R s m args below meth c K (pc, ls, v :: .ref a :: st, h) := by
  intro H locs cells slots lsr h1 h2 h3 h4 h5
  obtain ⟨⟨hc, hin, hty, hnm, hci, hlen⟩, hj, hf, -⟩ := hF
  obtain ⟨ref, hlk, hsame⟩ := hl
  obtain ⟨hz, cell, q1, q2, q3, q4⟩ := (h1.2.2.2.2.1 a).1 ci _ hc hk
  obtain ⟨hx, hb, -, -, hown, hnmM, -, -, -, -, hcx⟩ := hC
  have hts : ∀ w ∈ lw_all, w.before args s = true := fun w hw => hcx.1 w hw args
  have hap := va_apart (own := mi.2.2.2.1) hts hin ty hty hnm hcx.2.2.1 hc
  obtain ⟨hS, hfc, kC, hkC, hkind⟩ := hcx.2.2.1.1 ci _ hc
  obtain ⟨cf, kf, fi, fd, hi, hsl⟩ := hS j hj
  have hi' : s.fieldFound? ref (T j).2.1 (T j).2.2.1 = some (cf, kf, fi, fd) := by
    rcases hsame with rfl | hs
    · exact hi
    · exact u_same (hts _ hs) _ hi
  have hst := (u_facts hfc hkC (u_lays hts hin hj) hi).1
  have hnext : ∀ H' : Heap, H'[a]? = some (cell.setSlot fd.slot v) → H'.size = H.size → (∀ q, q ≠ a → H'[q]? = H[q]?) → W p l e R s m args below meth c H' (locs ++ [⟨a, fd.slot⟩]) cells slots (FinZ D cA z R s below K) (F0 m (pc + 3) lsr st) := by
    intro H' e1 e2 e3
    rw [hsl] at e1
    refine hO H' _ cells slots lsr ?_ ?_ h3 h4 h5
    · refine h1.set (a := a) hz rfl e2 (fun _ => rfl) (fun _ _ => rfl) (fun g b hb => ?_) (fun _ _ => rfl) (fun _ _ => rfl) e3 ?_
      · rw [gF_pF, if_neg (fun w => hb w.2)]
      · have hC0 := h1.2.2.2.2.1 a
        refine ⟨fun ci' r' hc' hk' => ?_, fun j' hj' hk' => ?_, fun j' hj' hk' => ?_, fun hk' => ?_, fun hk' => ?_, fun hk' => ?_, fun hk' => ?_, fun j' hj' hk' => ?_⟩
        · have : ci' = ci := by have : ci' + 1 = ci + 1 := hk'.symm.trans hk; omega
          subst this
          rw [hc] at hc'
          cases hc'
          refine ⟨hz, t_OB.to (V := updV (fun k => gF h (fid ci' k) a) j v) ⟨_, e1, q2, q3, t_set q4 hap hj v⟩ (fun k hk2 => ?_)⟩
          rw [gF_pF]
          by_cases hkj : k = j
          · subst hkj
            rw [if_pos ⟨hf, rfl⟩]
            simp [updV]
          · rw [if_neg (fun w => fid_ne hci hlen hk2 hj hkj (w.1.trans hf.symm))]
            simp [updV, hkj]
        · exact absurd (show gK h a = _ from hk') (by omega)
        · exact absurd (show gK h a = _ from hk') (by omega)
        · exact absurd (show gK h a = _ from hk') (by omega)
        · exact absurd (show gK h a = _ from hk') (by omega)
        · exact absurd (show gK h a = _ from hk') (by omega)
        · exact absurd (show gK h a = _ from hk') (by omega)
        · exact absurd (show gK h a = _ from hk') (by omega)
    · intro q hq
      rcases List.mem_append.mp hq with w | w
      · exact h2 q w
      · rw [List.mem_singleton.mp w]; exact hz
  have hlay := hts _ (hin _ (u_in_lay hj))
  unfold u_lay at hlay
  rcases hfin with hfin | ⟨hfin, hin2, hdecl⟩
  · rw [if_neg (by rw [hfin]; decide)] at hlay
    have h6 := u_store hfc hkC hkind hlay hi (hty j hj) hn hfit
    exact W.putK hx hb (f := fd) ⟨hown, hts _ hlk, ⟨_, _, _, hi'⟩, hst⟩ (by rw [q2]; exact h6) q1 q3 (by rw [hsl]; exact k2_hasslot (q4 j hj)) rfl rfl hd hnext
  · rw [if_pos hfin] at hlay
    have hcf : m.cls = cf := by
      obtain ⟨_, _, c', _, _, _, -, -, hf', -, -, -, hown2, -⟩ := Cond.laysFinal_spec hlay
      have e1 : c' = cf := by have := hi.symm.trans hf'; simp at this; exact this.1.symm
      rw [hdecl] at hown2
      rw [← e1]; exact Option.some.inj (hown.symm.trans hown2)
    have h6 := u_fits hfc hkC hkind (Or.inr hlay) hi (hty j hj) hn hfit
    exact W.putFinK hx hb hown (hts _ hlk) hi' hst hcf (hnmM.trans hin2) (by rw [q2]; exact h6) q1 q3 (by rw [hsl]; exact k2_hasslot (q4 j hj)) rfl rfl hd hnext
def PkZ (mi : MI) (idx f ci j : Nat) (C : String) (T : u_T) (N : Nat) (ty : Nat → FieldType) : Prop :=
  FkZ mi.2.2.2.1 idx f ci j C T N ty ∧ (∃ ref, Cond.fieldLink mi.2.2.2.1 idx ref (T j).2.1 (T j).2.2.1 ∈ lw_all ∧ (ref = (T j).1 ∨ Cond.sameField ref (T j).1 (T j).2.1 (T j).2.2.1 ∈ lw_all)) ∧ ((T j).2.2.2 = false ∨ ((T j).2.2.2 = true ∧ mi.2.2.2.2.1 = "<init>" ∧ (T j).1 = mi.2.2.2.1))
theorem s_putI {idx f : Nat} {ks : List Nat} (hd : decode mi.1 pc = .ok (.putfield idx, 3)) (hk : ∀ k ∈ ks, ∃ ci j C T N ty, k = ci + 1 ∧ PkZ mi idx f ci j C T N ty ∧ ty j = .int) : SiZ mi pc (i_putI f ks (pc + 3)) := by
  intro D cA z p l e R s m args below meth c K hC ls st h o hll ho hO
  simp only [i_putI] at ho
  split at ho
  · split at ho
    · rename_i hg
      cases ho
      obtain ⟨ci, j, C, T, N, ty, e1, ⟨f1, f2, f3⟩, e2⟩ := hk _ hg
      exact putZ hd f1 f2 f3 (by rw [e2]; rfl) (by rw [e2]; rfl) hC e1 (hO hll)
    · cases ho
  · cases ho
theorem s_putZ {idx f : Nat} {ks : List Nat} (hd : decode mi.1 pc = .ok (.putfield idx, 3)) (hk : ∀ k ∈ ks, ∃ ci j C T N ty, k = ci + 1 ∧ PkZ mi idx f ci j C T N ty ∧ ty j = .boolean) : SiZ mi pc (i_putZ f ks (pc + 3)) := by
  intro D cA z p l e R s m args below meth c K hC ls st h o hll ho hO
  simp only [i_putZ] at ho
  split at ho
  · split at ho
    · rename_i hg
      cases ho
      obtain ⟨ci, j, C, T, N, ty, e1, ⟨f1, f2, f3⟩, e2⟩ := hk _ hg.1
      refine putZ hd f1 f2 f3 ?_ ?_ hC e1 (hO hll)
      · rw [e2]; rcases hg.2 with rfl | rfl <;> decide
      · rw [e2]; rcases hg.2 with rfl | rfl <;> decide
    · cases ho
  · cases ho
theorem s_putR {idx f : Nat} {ks : List Nat} (hd : decode mi.1 pc = .ok (.putfield idx, 3)) (hk : ∀ k ∈ ks, ∃ ci j C T N ty, k = ci + 1 ∧ PkZ mi idx f ci j C T N ty ∧ ((∃ n, ty j = .object n) ∨ ∃ t, ty j = .array t)) : SiZ mi pc (i_putR f ks (pc + 3)) := by
  intro D cA z p l e R s m args below meth c K hC ls st h o hll ho hO
  simp only [i_putR] at ho
  split at ho
  · split at ho
    · rename_i hg
      cases ho
      obtain ⟨ci, j, C, T, N, ty, e1, ⟨f1, f2, f3⟩, e2⟩ := hk _ hg
      refine putZ hd f1 f2 f3 ?_ ?_ hC e1 (hO hll)
      · rcases e2 with ⟨n, e2⟩ | ⟨n, e2⟩ <;> rw [e2] <;> rfl
      · rcases e2 with ⟨n, e2⟩ | ⟨n, e2⟩ <;> rw [e2] <;> rfl
    · cases ho
  · split at ho
    · rename_i hg
      cases ho
      obtain ⟨ci, j, C, T, N, ty, e1, ⟨f1, f2, f3⟩, e2⟩ := hk _ hg
      refine putZ hd f1 f2 f3 ?_ ?_ hC e1 (hO hll)
      · rcases e2 with ⟨n, e2⟩ | ⟨n, e2⟩ <;> rw [e2] <;> rfl
      · rcases e2 with ⟨n, e2⟩ | ⟨n, e2⟩ <;> rw [e2] <;> rfl
    · cases ho
  · cases ho
/-- a static field -/
theorem s_gets {idx f : Nat} {C n d : String} (hd : decode mi.1 pc = .ok (.getstatic idx, 3)) (hlink : Cond.fieldLink mi.2.2.2.1 idx C n d ∈ lw_all) (hf : ∀ (cA : Nat → ClassId) (z : Nat) (U : State) (h : Hp) (H : Heap), StaZ cA z U h H → va_Z C n d (gF h f 0) (fun q => z ≤ q) U H) : SiZ mi pc (i_gets f (pc + 3)) := by
  intro D cA z p l e R s m args below meth c K hC ls st h o hll ho hO
  cases ho
  intro H locs cells slots lsr h1 h2 h3 h4 h5
  obtain ⟨hx, hb, -, -, hown, -, -, -, -, -, hcx⟩ := hC
  obtain ⟨cf, kf, fi, fd, a, cell, g1, g2, g3, g4, g5, g6, g7, g8⟩ := hf cA z s h H h1.2.2.2.2.2
  exact W.gets hx hb hown (hcx.1 _ hlink _) g1 g2 g3 g4 g5 (fun e => by rw [e] at g6; cases g6) g7 rfl hd (hO hll H locs cells slots lsr h1 h2 h3 h4 h5)
/-- the String constant -/
theorem s_ldcS (hd : decode mi.1 pc = .ok (.ldc 104, 2)) (hoN : mi.2.2.2.1 = "FishReaders$Reader") : SiZ mi pc (i_gets 1009 (pc + 2)) := by
  intro D cA z p l e R s m args below meth c K hC ls st h o hll ho hO
  cases ho
  intro H locs cells slots lsr h1 h2 h3 h4 h5
  obtain ⟨hx, hb, -, -, hown, -, -, -, -, -, hcx⟩ := hC
  obtain ⟨-, -, -, -, -, e1, -⟩ := h1.2.2.2.2.2
  have e2 := hcx.2.2.2.2.2.2.2.1
  have := hO hll H locs cells slots lsr h1 h2 h3 h4 h5
  rw [show ((pc + 2, ls, gF h 1009 0 :: st, h) : Fs).2.2.1 = .ref (cA 99) :: st by rw [← e1]] at this
  rw [hoN] at hown
  exact va_ldcS hx hb hown e2 hd this
end FIELDS
