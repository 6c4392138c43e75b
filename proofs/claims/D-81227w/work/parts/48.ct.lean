def ccT (A B h : String) : String := "class " ++ A ++ " cannot be cast to class " ++ B ++ " (" ++ (A ++ " and " ++ B ++ " are in " ++ (h ++ " of loader " ++ "'bootstrap'")) ++ ")"
theorem cc_text {vm : Vm} {a b : Class} {A B : String} (ha : a.name = A) (hb : b.name = B) (hha : a.hidden = none) (hhb : b.hidden = none) (hla : a.loader = none) (hlb : b.loader = none) (hpa : a.ofPrimitives = false) (hpb : b.ofPrimitives = false) (hA : packageOf A = "") (hB : packageOf B = "")
    (hm : (vm.modules.all fun m => m.loader.isSome || m.name == "java.base" || !(["", "java/lang"].any fun p => m.packages.contains p)) = true) :
    Jvm.Op.checkcast.message vm a b = ccT (dotted A) (dotted B) "module java.base" ∨ Jvm.Op.checkcast.message vm a b = ccT (dotted A) (dotted B) "unnamed module" := by
  have e : vm.moduleOf a = vm.moduleOf b := by
    unfold Vm.moduleOf
    rw [hpa, hpb, hla, hlb, ha, hb, hA, hB]
  have es : vm.sameModule a b = true := by
    unfold Vm.sameModule
    rw [e]
    cases vm.moduleOf b with
    | none => simp [hla, hlb]
    | some x => simp
  have sa : a.shown = dotted A := by unfold Class.shown; rw [hha, ha]
  have sb : b.shown = dotted B := by unfold Class.shown; rw [hhb, hb]
  have hl : vm.loaderName a.loader = "'bootstrap'" := by rw [hla]; rfl
  have key : vm.home a = "module java.base" ++ " of loader " ++ "'bootstrap'" ∨ vm.home a = "unnamed module" ++ " of loader " ++ "'bootstrap'" := by
    unfold Vm.home
    rw [hl]
    cases hmo : vm.moduleOf a with
    | none => exact Or.inr rfl
    | some x =>
      refine Or.inl ?_
      have hf : vm.modules.find? (fun m => m.loader == a.loader && m.packages.contains (packageOf a.name)) = some x := by
        unfold Vm.moduleOf at hmo
        rw [hpa] at hmo
        exact hmo
      have h1 := List.find?_some hf
      have h2 := List.mem_of_find?_eq_some hf
      have h3 := List.all_eq_true.mp hm x h2
      rw [hla, ha, hA, Bool.and_eq_true] at h1
      have h4 : x.loader = none := by simpa using h1.1
      have h5 : x.packages.contains "" = true := h1.2
      rw [h4] at h3
      have h6 : x.name = "java.base" := by
        simp only [Option.isSome_none, Bool.false_or, Bool.or_eq_true, beq_iff_eq] at h3
        rcases h3 with h | h
        · exact h
        · simp at h
          exact absurd h5 (by simpa using h.1)
      simp only
      rw [h6]
      rfl
  unfold Jvm.Op.checkcast.message Vm.homes
  rw [es, sa, sb]
  rcases key with k | k
  · left; simp only [if_true]; rw [k]; rfl
  · right; simp only [if_true]; rw [k]; rfl
