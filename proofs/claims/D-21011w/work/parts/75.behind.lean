/-! what is told behind weeks: the lambdas' own methods, behind -/
section XE5
variable {l : Launch} {s0 : State} {D : va_G}
/-- the law's own call, with the method's number -/
theorem xMet.ofN {y : MethodName} {b : ByteArray} {L : Nat} {r : Option FieldType} {rm : Room} {av : List Value} {g : xG} {post : Option Value → xG → Prop} (h0 : x0 l s0 D) (hy : plainFor y = true) (hlen : Nat.ble (lg_sl av).length L = true)
    (body : ∀ (p : Program) (e : Env) (s : State) (m : MethodId) (args : Array Value) (below : List Frame) (meth : Method) (c : Code), xC p l s0 s D m args meth c y.cls b → meth.sig.returnType = r → meth.name = y.name → s.methodNamed? y = some m →
      XW p l e rm s m args below meth c s0 D (MQ below (xQ s0 D post) args s rm.cells rm.slots (fun q => s0.heap.size ≤ q)) 0 0 g 0 (xpad L (xarg av)) []) : xMet l s0 D y b L r rm av g post := by
  refine va_MetF (cc := b) (maxL := L) (ret := r) hy rfl ?_
  intro p e s m args below meth c s₁ B hml hv
  obtain ⟨rfl, hW, hI⟩ := hv
  have hts := atoms_spec (ws := ws_ y b L r) B.pre
  have hts : ∀ w ∈ lw_all, w.before _ s = true := fun w h => hts w (List.mem_cons_of_mem _ h)
  have hl := lv_entry av (n := L) (Nat.le_of_ble_eq_true hlen)
  rw [lg_entry_eq]
  refine body p e s m _ below meth c ⟨B.exec, B.bytes, findClass_of_methodNamed B.named, hts, B.notSynchronized, hW, h0, hI.1⟩ B.returns (name_of_methodNamed B.named B.method).1 B.named s.heap [] _ (by rw [hml, xpad_len]) hI ⟨Nat.le_refl _, fun _ _ _ => rfl, fun _ h => by cases h⟩ (xlv.of hl (xpad_len _ _).symm fun i v hv => ?_)
  have := xarg_mem av i 0 v (xpad_get _ _ _ _ hv)
  simpa using this
end XE5

set_option maxHeartbeats 4000000 in
set_option maxRecDepth 100000 in
theorem m_X2_lambda_fuel_5 {l : Launch} {s0 : State} {D : va_G} (h0 : x0 l s0 D) (σ : KS) (gF : xG)  : xMet l s0 D yX2_lambda_fuel_5 cX2_lambda_fuel_5 1 (some .int) (xr 1 0 0 25) [.ref (kA σ 0 0)] (kmix σ gF) (fun r g1 => r = some (.int (iI (kI σ 7 0))) ∧ g1 = kmix σ gF) := by
  refine xMet.of h0 (by decide +kernel) rfl ?_
  intro p e s m args below meth c hC hr hnm
  refine x_aloadr_n hC dX2_lambda_fuel_5_0 (q := 1) rfl rfl ?_
  refine x_get hC xf_X2_20_1 dX2_lambda_fuel_5_1 (q := 4) rfl (n := (0, 0)) rfl rfl ?_
  refine x_get hC xf_X2_223_2 dX2_lambda_fuel_5_4 (q := 7) rfl (n := (3, 0)) rfl rfl ?_
  exact x_iret hC hr dX2_lambda_fuel_5_7 (Nat.le_of_ble_eq_true rfl) (Nat.le_of_ble_eq_true rfl) ⟨rfl, rfl⟩

set_option maxHeartbeats 4000000 in
set_option maxRecDepth 100000 in
theorem m_X2_behind {l : Launch} {s0 : State} {D : va_G} (h0 : x0 l s0 D) (σ : KS) (gF : xG) (f : aEnv) {F : Nat → Option (aEnv → Int64)} {d0 : Nat} (hG : KSt gF F d0 σ) (hFo : KFo s0 gF d0) (n1 : Nat) (hn1 : n1 ≤ 40) (hwk : 0 ≤ kI σ 3 0 ∧ kI σ 3 0 + n1 ≤ 999) {sh : Jvm.Lambda.Shape} {by0 : ByteArray} {rmL : Room} {aL : Nat} {x : Int32} (hsh : (⟨"KilnBench$Told", "of", "()I"⟩ : MethodName) = ⟨sh.iface, sh.name, sh.sam.toString⟩) (hL : ∀ (a aw ah : Nat) (f2 : aEnv), xLamb l s0 D sh by0 1 .int rmL aL [] (kmix (kT (kGs F (kIs σ 4 0 1) n1) f2) (kSF gF a aw ah (iI (kI σ 3 0)) (iI (kI σ 7 0)) (kWf σ (kA σ 61 0)) (kHf σ (kA σ 62 0)) (kA σ 0 0))) (fun r g1 => r = some (.int x) ∧ g1 = kmix (kT (kGs F (kIs σ 4 0 1) n1) f2) (kSF gF a aw ah (iI (kI σ 3 0)) (iI (kI σ 7 0)) (kWf σ (kA σ 61 0)) (kHf σ (kA σ 62 0)) (kA σ 0 0)))) : xMet l s0 D yX2_behind cX2_behind 5 (some .int) (xr (50 + rmL.frames) (3 + 66 * n1 + rmL.cells) (48 + 411 * n1 + rmL.slots) (2000 + rmL.locals)) [.ref (kA σ 0 0), .int (nI n1), .ref aL] (kmix (kT σ f) gF) (fun r g1 => ∃ f1 y, r = some (.int x) ∧ g1 = kmix (kT (kIs σ 5 0 y) f1) gF) := by
  obtain ⟨hF, hv, hpl, hn, hKR, hT, -, h7, h4⟩ := hG
  have hw := hv.1
  have hpt : KPl (kIs σ 4 0 1) := KPl_is hpl (by decide) _ _
  have hvt : KV (kIs σ 4 0 1) := KV_kIs hv (by decide) _ _
  have hut : kUc σ (kIs σ 4 0 1) := kUc.is σ _ (Or.inr (Or.inl ⟨rfl, rfl⟩))
  obtain ⟨hpk, huk⟩ := kGs_P (F := F) hpt n1
  have hvk := kGs_V (F := F) hvt n1
  have hak := kA_kGs (F := F) (σ := (kIs σ 4 0 1)) n1
  have hok := kOn_eq (σ := σ) (τ := (kGs F (kIs σ 4 0 1) n1)) hak
  refine xMet.of h0 (by decide +kernel) rfl ?_
  intro p e s m args below meth c hC hr hnm
  refine x_aloadr_n hC dX2_behind_0 (q := 1) rfl rfl ?_
  refine x_iload_n hC dX2_behind_1 (q := 2) rfl rfl ?_
  refine x_iconst hC dX2_behind_2 (q := 3) rfl (v := (0)) (by decide) ?_
  refine x_bipush hC dX2_behind_3 (q := 5) rfl (v := (40)) (by decide) ?_
  refine x_callV hC xv_X2_289 dX2_behind_5 (q := 8) rfl rfl (m_X2_isAhead h0 (kT σ f) gF (nI n1) 0 40 ⟨by rw [nI_toInt (by omega)]; show (0 : Int) ≤ n1; omega, by rw [nI_toInt (by omega)]; show (n1 : Int) ≤ 40; omega⟩ (by rw [nI_toInt (by omega)]; exact ⟨show (-2147483648 : Int) ≤ kI σ 3 0 + n1 by omega, show kI σ 3 0 + (n1 : Int) < 2147483648 by omega⟩) (by rw [nI_toInt (by omega)]; exact hwk.2)) (nn := (0, 0)) rfl rfl rfl (Nat.le_of_ble_eq_true rfl) ⟨(show 1 + 1 ≤ 50 + rmL.frames by omega), (show 8 + (4 + 11) + 25 ≤ 2000 + rmL.locals by omega)⟩ ⟨(show 0 + 0 ≤ 3 + 66 * n1 + rmL.cells by omega), (show 0 + 0 ≤ 48 + 411 * n1 + rmL.slots by omega)⟩ (fun v g1 hp => ?_)
  obtain ⟨rfl, hg1⟩ := hp
  replace hg1 := hg1.symm
  subst hg1
  refine x_if_ne hC dX2_behind_8 (q := 11) rfl (tgt := 13) rfl (fun h8 => ?_) (fun h8 => ?_)
  · refine x_aloadr_n hC dX2_behind_13 (q := 14) rfl rfl ?_
    refine x_callV hC xv_X2_415 dX2_behind_14 (q := 17) rfl rfl (m_X2_thinks h0 (kT σ f) gF hw hFo.NS) (nn := (0, 0)) rfl rfl rfl (Nat.le_of_ble_eq_true rfl) ⟨(show 5 + 1 ≤ 50 + rmL.frames by omega), (show 8 + (1 + 11) + 120 ≤ 2000 + rmL.locals by omega)⟩ ⟨(show 0 + 0 + 3 ≤ 3 + 66 * n1 + rmL.cells by omega), (show 0 + 0 + 48 ≤ 48 + 411 * n1 + rmL.slots by omega)⟩ (fun v g1 hp => ?_)
    obtain ⟨a, aw, ah, rfl, hg1⟩ := hp
    replace hg1 := hg1.symm
    subst hg1
    refine x_geq (g' := kmix (kT (kIs σ 4 0 1) f) (kSF gF a aw ah (iI (kI σ 3 0)) (iI (kI σ 7 0)) (kWf σ (kA σ 61 0)) (kHf σ (kA σ 62 0)) (kA σ 0 0))) rfl ?_
    refine x_astorer_n hC dX2_behind_17 (q := 18) rfl rfl ?_
    refine x_aloadr_n hC dX2_behind_18 (q := 19) rfl rfl ?_
    refine x_iload_n hC dX2_behind_19 (q := 20) rfl rfl ?_
    refine x_callV hC xv_X2_296 dX2_behind_20 (q := 23) rfl rfl (m_goes_t h0 (kIs σ 4 0 1) (kSF gF a aw ah (iI (kI σ 3 0)) (iI (kI σ 7 0)) (kWf σ (kA σ 61 0)) (kHf σ (kA σ 62 0)) (kA σ 0 0)) f (F := F) (kF_mono hF (kSF_sub hFo.NS)) hvt hpt hKR hT (xE0_SF hFo.1) h7 (kNB_SF hFo.NB) (by rw [kSF_ne (Or.inr (by decide))]; exact hFo.at 60 0 (by decide) (by decide)) (by rw [kSF_ne (Or.inr (by decide))]; exact hFo.at 53 0 (by decide) (by decide)) (by show ¬ iI 1 = 0; decide) n1 hn1) (nn := (0, 0)) rfl rfl rfl (Nat.le_of_ble_eq_true rfl) ⟨(show 42 + 1 ≤ 50 + rmL.frames by omega), (show 8 + (4 + 11) + 1900 ≤ 2000 + rmL.locals by omega)⟩ ⟨(show 0 + 0 + 3 + 66 * n1 ≤ 3 + 66 * n1 + rmL.cells by omega), (show 0 + 0 + 48 + 411 * n1 ≤ 48 + 411 * n1 + rmL.slots by omega)⟩ (fun v g1 hp => ?_)
    obtain ⟨f2, rfl, hg1⟩ := hp
    replace hg1 := hg1.symm
    subst hg1
    refine x_pop hC dX2_behind_23 (q := 24) rfl rfl ?_
    refine x_aloadr_n hC dX2_behind_24 (q := 25) rfl rfl ?_
    refine x_callM hC (hL a aw ah f2) q1740 q1742 q1741 hsh (by decide) (show (parseMethodDescriptor "()I").map (fun d => d.parameters.length) = some 0 by decide +kernel) (q := 30) dX2_behind_25 rfl (As := []) (rest := []) rfl (by decide) rfl ⟨(show rmL.frames + 1 ≤ 50 + rmL.frames by omega), (show 8 + (1 + 11) + rmL.locals ≤ 2000 + rmL.locals by omega)⟩ ⟨(show 0 + 0 + 3 + 66 * n1 + rmL.cells ≤ 3 + 66 * n1 + rmL.cells by omega), (show 0 + 0 + 48 + 411 * n1 + rmL.slots ≤ 48 + 411 * n1 + rmL.slots by omega)⟩ (fun v g1 hp => ?_)
    obtain ⟨rfl, hg1⟩ := hp
    replace hg1 := hg1.symm
    subst hg1
    refine x_geq (g' := kmix (kT (kOn σ (kGs F (kIs σ 4 0 1) n1)) f2) (kSF gF a aw ah (iI (kI σ 3 0)) (iI (kI σ 7 0)) (kWf σ (kA σ 61 0)) (kHf σ (kA σ 62 0)) (kA σ 0 0))) (by rw [hok]) ?_
    refine x_istore hC dX2_behind_30 (q := 32) rfl rfl ?_
    refine x_aloadr_n hC dX2_behind_32 (q := 33) rfl rfl ?_
    refine x_aloadr_n hC dX2_behind_33 (q := 34) rfl rfl ?_
    refine x_callV hC xv_X2_423 dX2_behind_34 (q := 37) rfl rfl (m_X2_thoughtOf h0 (kT (kOn σ (kGs F (kIs σ 4 0 1) n1)) f2) gF (by have := hvk; rw [← hok] at this; exact this) hFo.NS (a := a) (aw := aw) (ah := ah) (wk := kI σ 3 0) (fu := kI σ 7 0) (w := kWf σ (kA σ 61 0)) (ht := kHf σ (kA σ 62 0)) (kWok_kWf hw hpl)) (nn := (0, 0)) rfl rfl rfl (Nat.le_of_ble_eq_true rfl) ⟨(show 6 + 1 ≤ 50 + rmL.frames by omega), (show 8 + (2 + 11) + 130 ≤ 2000 + rmL.locals by omega)⟩ ⟨(show 0 + 0 + 3 + 66 * n1 + rmL.cells + 0 ≤ 3 + 66 * n1 + rmL.cells by omega), (show 0 + 0 + 48 + 411 * n1 + rmL.slots + 0 ≤ 48 + 411 * n1 + rmL.slots by omega)⟩ (fun v g1 hp => ?_)
    obtain ⟨rfl, hg1⟩ := hp
    replace hg1 := hg1.symm
    subst hg1
    refine x_geq (g' := kmix (kT (kIs σ 5 0 (kI (kGs F (kIs σ 4 0 1) n1) 5 0)) f2) gF) (by rw [kBack_t hw hpl hn h4 (hut.trans huk) hpk]) ?_
    refine x_iload hC dX2_behind_37 (q := 39) rfl rfl ?_
    exact x_iret hC hr dX2_behind_39 (show 0 + 0 + 3 + 66 * n1 + rmL.cells + 0 ≤ 3 + 66 * n1 + rmL.cells by omega) (show 0 + 0 + 48 + 411 * n1 + rmL.slots + 0 ≤ 48 + 411 * n1 + rmL.slots by omega) ⟨f2, _, rfl, rfl⟩
  · exact absurd h8 (by decide)
