set_option maxRecDepth 100000
set_option maxHeartbeats 1200000
theorem DX0_text_0W : DD cX0_text 0 1 1 (.aload_n 0) := ⟨by decide +kernel, rfl⟩
theorem DX0_text_1W : DD cX0_text 1 3 4 (.invokevirtual 67) := ⟨by decide +kernel, rfl⟩
theorem DX0_text_4W : DD cX0_text 4 1 5 (.istore_n 2) := ⟨by decide +kernel, rfl⟩
theorem DX0_text_5W : DD cX0_text 5 1 6 (.aload_n 0) := ⟨by decide +kernel, rfl⟩
theorem DX0_text_6W : DD cX0_text 6 1 7 (.iload_n 1) := ⟨by decide +kernel, rfl⟩
theorem DX0_text_7W : DD cX0_text 7 1 8 (.iconst 0) := ⟨by decide +kernel, rfl⟩
theorem DX0_text_8W : DD cX0_text 8 3 11 (.invokevirtual 388) := ⟨by decide +kernel, rfl⟩
theorem DX0_text_11W : DD cX0_text 11 3 14 (.ifCond .ne 12) := ⟨by decide +kernel, rfl⟩
theorem DX0_text_14W : DD cX0_text 14 1 15 (.aload_n 0) := ⟨by decide +kernel, rfl⟩
theorem DX0_text_15W : DD cX0_text 15 1 16 (.iload_n 1) := ⟨by decide +kernel, rfl⟩
theorem DX0_text_16W : DD cX0_text 16 1 17 (.iconst 1) := ⟨by decide +kernel, rfl⟩
theorem DX0_text_17W : DD cX0_text 17 3 20 (.invokevirtual 388) := ⟨by decide +kernel, rfl⟩
theorem DX0_text_20W : DD cX0_text 20 3 23 (.ifCond .eq 24) := ⟨by decide +kernel, rfl⟩
theorem DX0_text_23W : DD cX0_text 23 1 24 (.iload_n 2) := ⟨by decide +kernel, rfl⟩
theorem DX0_text_24W : DD cX0_text 24 3 27 (.sipush 1000) := ⟨by decide +kernel, rfl⟩
theorem DX0_text_27W : DD cX0_text 27 3 30 (.if_icmp .gt 17) := ⟨by decide +kernel, rfl⟩
theorem DX0_text_30W : DD cX0_text 30 1 31 (.aload_n 0) := ⟨by decide +kernel, rfl⟩
theorem DX0_text_31W : DD cX0_text 31 3 34 (.getfield 119) := ⟨by decide +kernel, rfl⟩
theorem DX0_text_34W : DD cX0_text 34 1 35 (.iload_n 1) := ⟨by decide +kernel, rfl⟩
theorem DX0_text_35W : DD cX0_text 35 1 36 (.iaload) := ⟨by decide +kernel, rfl⟩
theorem DX0_text_36W : DD cX0_text 36 1 37 (.iconst 1) := ⟨by decide +kernel, rfl⟩
theorem DX0_text_37W : DD cX0_text 37 3 40 (.if_icmp .ne 9) := ⟨by decide +kernel, rfl⟩
theorem DX0_text_40W : DD cX0_text 40 1 41 (.iload_n 2) := ⟨by decide +kernel, rfl⟩
theorem DX0_text_41W : DD cX0_text 41 3 44 (.ifCond .ne 5) := ⟨by decide +kernel, rfl⟩
theorem DX0_text_44W : DD cX0_text 44 1 45 (.iconst (-1)) := ⟨by decide +kernel, rfl⟩
theorem DX0_text_45W : DD cX0_text 45 1 46 (.ireturn) := ⟨by decide +kernel, rfl⟩
theorem DX0_text_46W : DD cX0_text 46 1 47 (.aload_n 0) := ⟨by decide +kernel, rfl⟩
theorem DX0_text_47W : DD cX0_text 47 1 48 (.iload_n 1) := ⟨by decide +kernel, rfl⟩
theorem DX0_text_48W : DD cX0_text 48 1 49 (.aload_n 0) := ⟨by decide +kernel, rfl⟩
theorem DX0_text_49W : DD cX0_text 49 3 52 (.getfield 1) := ⟨by decide +kernel, rfl⟩
theorem DX0_text_52W : DD cX0_text 52 1 53 (.iconst 0) := ⟨by decide +kernel, rfl⟩
theorem DX0_text_53W : DD cX0_text 53 1 54 (.iload_n 2) := ⟨by decide +kernel, rfl⟩
theorem DX0_text_54W : DD cX0_text 54 3 57 (.invokevirtual 391) := ⟨by decide +kernel, rfl⟩
theorem DX0_text_57W : DD cX0_text 57 3 60 (.ifCond .eq 11) := ⟨by decide +kernel, rfl⟩
theorem DX0_text_60W : DD cX0_text 60 1 61 (.aload_n 0) := ⟨by decide +kernel, rfl⟩
theorem DX0_text_61W : DD cX0_text 61 1 62 (.iload_n 1) := ⟨by decide +kernel, rfl⟩
theorem DX0_text_62W : DD cX0_text 62 3 65 (.invokevirtual 395) := ⟨by decide +kernel, rfl⟩
theorem DX0_text_65W : DD cX0_text 65 3 68 (.goto 5) := ⟨by decide +kernel, rfl⟩
theorem DX0_text_68W : DD cX0_text 68 2 70 (.bipush (-3)) := ⟨by decide +kernel, rfl⟩
theorem DX0_text_70W : DD cX0_text 70 1 71 (.ireturn) := ⟨by decide +kernel, rfl⟩
theorem ucX0_text_0W {E : XE} {d : Nat} {σ : Sto} {Q : Res → Sto → Prop} {x1 : Int} (hL : Lay σ)  (h : 1 ≤ d ∧ (∀ (y3 : Int) (σ2 : Sto), inR y3 → SF σ σ2 → ((y3 = σ.I 0 1) ∧ (Ch (fun c i => at2 c i 0 1) σ σ2) ∧ (σ2.I 0 1 = 0)) → 3 ≤ d ∧ (inR x1) ∧ (inR (0 : Int)) ∧ (0 ≤ σ2.I 0 9 ∧ σ2.I 0 9 ≤ 12) ∧ (((0 ≤ x1 ∧ x1 < σ2.I 0 9) ∧ σ2.I 16 x1 = (0 : Int)) → (1000 < y3 → Q (.inl (some (aI (-1)))) σ2) ∧ (y3 ≤ 1000 → 0 ≤ x1 ∧ x1 < 12 ∧ (inR (σ2.I 16 x1) → ((σ2.I 16 x1) ≠ 1 → 20 ≤ d ∧ (0 ≤ σ2.I 0 31 ∧ σ2.I 0 31 ≤ σ2.I 0 20) ∧ (σ2.I 0 20 ≤ 6000 ∧ σ2.I 0 20 ≤ σ2.I 0 31 + 24) ∧ (0 ≤ σ2.I 0 22 ∧ σ2.I 0 22 ≤ 60000) ∧ (0 ≤ σ2.I 0 29 ∧ 0 ≤ σ2.I 0 30) ∧ (σ2.I 0 29 + σ2.I 0 30 ≤ 24000) ∧ (1 = 1) ∧ (0 ≤ (0 : Int) ∧ 0 ≤ y3 ∧ y3 ≤ 1000 ∧ (0 : Int) + y3 ≤ 30000) ∧ (0 ≤ x1 ∧ x1 < σ2.I 0 9 ∧ σ2.I 0 9 ≤ 12) ∧ (σ2.I 16 x1 = 0 ∨ σ2.I 16 x1 = 1) ∧ (σ2.I 16 x1 = 0 → 0 ≤ σ2.I 17 x1 ∧ σ2.I 17 x1 < σ2.I 0 4) ∧ (AN σ2) ∧ (ANX σ2) ∧ (bd_0_20 σ2 12 250) ∧ (TC σ2) ∧ (TU σ2) ∧ (0 ≤ σ2.I 18 7 ∧ σ2.I 18 7 ≤ 30000) ∧ (bd_0_20 σ2 21 36500) ∧ (bd_0_12 σ2 20 36500) ∧ (σ2.I 0 4 ≤ 6) ∧ (∀ (y36 : Int) (σ35 : Sto), 0 ≤ y36 ∧ y36 ≤ 1 → SF σ2 σ35 → (((¬ (σ2.I 0 20 - σ2.I 0 31 < 24 ∧ σ2.I 0 20 < 6000 ∧ σ2.I 0 22 + y3 ≤ 60000 ∧ σ2.I 0 29 + σ2.I 0 30 + (lTX σ2 x1 (σ2.I 1) (0 : Int) y3).1 ≤ 24000) ∧ y36 = 0 ∧ KXt 10 σ2 σ35) ∨ ((σ2.I 0 20 - σ2.I 0 31 < 24 ∧ σ2.I 0 20 < 6000 ∧ σ2.I 0 22 + y3 ≤ 60000 ∧ σ2.I 0 29 + σ2.I 0 30 + (lTX σ2 x1 (σ2.I 1) (0 : Int) y3).1 ≤ 24000) ∧ y36 = 1 ∧ TXX σ2 σ35 x1 (σ2.I 1) (0 : Int) y3 (lTX σ2 x1 (σ2.I 1) (0 : Int) y3))) ∧ (bd_0_20 σ35 12 250)) → (y36 = 0 → Q (.inl (some (aI (-3)))) σ35) ∧ (y36 ≠ 0 → 1 ≤ d ∧ (0 ≤ σ35.I 0 20 ∧ σ35.I 0 20 < 6000) ∧ (0 ≤ σ35.I 0 31 ∧ σ35.I 0 31 ≤ σ35.I 0 20) ∧ (0 ≤ x1 ∧ x1 ≤ 12) ∧ (∀ (y43 : Int) (σ42 : Sto), inR y43 → SF σ35 σ42 → ((y43 = σ35.I 0 20 + 1 - σ35.I 0 31) ∧ (RD σ35 σ42 (fun c i => if at2 c i 26 (σ35.I 0 20) then x1 else if at2 c i 0 20 then σ35.I 0 20 + 1 else σ35.I c i))) → Q (.inl (some (aI y43))) σ42)))) ∧ ((σ2.I 16 x1) = 1 → (y3 ≠ 0 → 20 ≤ d ∧ (0 ≤ σ2.I 0 31 ∧ σ2.I 0 31 ≤ σ2.I 0 20) ∧ (σ2.I 0 20 ≤ 6000 ∧ σ2.I 0 20 ≤ σ2.I 0 31 + 24) ∧ (0 ≤ σ2.I 0 22 ∧ σ2.I 0 22 ≤ 60000) ∧ (0 ≤ σ2.I 0 29 ∧ 0 ≤ σ2.I 0 30) ∧ (σ2.I 0 29 + σ2.I 0 30 ≤ 24000) ∧ (1 = 1) ∧ (0 ≤ (0 : Int) ∧ 0 ≤ y3 ∧ y3 ≤ 1000 ∧ (0 : Int) + y3 ≤ 30000) ∧ (0 ≤ x1 ∧ x1 < σ2.I 0 9 ∧ σ2.I 0 9 ≤ 12) ∧ (σ2.I 16 x1 = 0 ∨ σ2.I 16 x1 = 1) ∧ (σ2.I 16 x1 = 0 → 0 ≤ σ2.I 17 x1 ∧ σ2.I 17 x1 < σ2.I 0 4) ∧ (AN σ2) ∧ (ANX σ2) ∧ (bd_0_20 σ2 12 250) ∧ (TC σ2) ∧ (TU σ2) ∧ (0 ≤ σ2.I 18 7 ∧ σ2.I 18 7 ≤ 30000) ∧ (bd_0_20 σ2 21 36500) ∧ (bd_0_12 σ2 20 36500) ∧ (σ2.I 0 4 ≤ 6) ∧ (∀ (y66 : Int) (σ65 : Sto), 0 ≤ y66 ∧ y66 ≤ 1 → SF σ2 σ65 → (((¬ (σ2.I 0 20 - σ2.I 0 31 < 24 ∧ σ2.I 0 20 < 6000 ∧ σ2.I 0 22 + y3 ≤ 60000 ∧ σ2.I 0 29 + σ2.I 0 30 + (lTX σ2 x1 (σ2.I 1) (0 : Int) y3).1 ≤ 24000) ∧ y66 = 0 ∧ KXt 10 σ2 σ65) ∨ ((σ2.I 0 20 - σ2.I 0 31 < 24 ∧ σ2.I 0 20 < 6000 ∧ σ2.I 0 22 + y3 ≤ 60000 ∧ σ2.I 0 29 + σ2.I 0 30 + (lTX σ2 x1 (σ2.I 1) (0 : Int) y3).1 ≤ 24000) ∧ y66 = 1 ∧ TXX σ2 σ65 x1 (σ2.I 1) (0 : Int) y3 (lTX σ2 x1 (σ2.I 1) (0 : Int) y3))) ∧ (bd_0_20 σ65 12 250)) → (y66 = 0 → Q (.inl (some (aI (-3)))) σ65) ∧ (y66 ≠ 0 → 1 ≤ d ∧ (0 ≤ σ65.I 0 20 ∧ σ65.I 0 20 < 6000) ∧ (0 ≤ σ65.I 0 31 ∧ σ65.I 0 31 ≤ σ65.I 0 20) ∧ (0 ≤ x1 ∧ x1 ≤ 12) ∧ (∀ (y73 : Int) (σ72 : Sto), inR y73 → SF σ65 σ72 → ((y73 = σ65.I 0 20 + 1 - σ65.I 0 31) ∧ (RD σ65 σ72 (fun c i => if at2 c i 26 (σ65.I 0 20) then x1 else if at2 c i 0 20 then σ65.I 0 20 + 1 else σ65.I c i))) → Q (.inl (some (aI y73))) σ72)))) ∧ (y3 = 0 → Q (.inl (some (aI (-1)))) σ2))))) ∧ (¬ ((0 ≤ x1 ∧ x1 < σ2.I 0 9) ∧ σ2.I 16 x1 = (0 : Int)) → 3 ≤ d ∧ (inR x1) ∧ (inR (1 : Int)) ∧ (0 ≤ σ2.I 0 9 ∧ σ2.I 0 9 ≤ 12) ∧ (((0 ≤ x1 ∧ x1 < σ2.I 0 9) ∧ σ2.I 16 x1 = (1 : Int)) → (1000 < y3 → Q (.inl (some (aI (-1)))) σ2) ∧ (y3 ≤ 1000 → 0 ≤ x1 ∧ x1 < 12 ∧ (inR (σ2.I 16 x1) → ((σ2.I 16 x1) ≠ 1 → 20 ≤ d ∧ (0 ≤ σ2.I 0 31 ∧ σ2.I 0 31 ≤ σ2.I 0 20) ∧ (σ2.I 0 20 ≤ 6000 ∧ σ2.I 0 20 ≤ σ2.I 0 31 + 24) ∧ (0 ≤ σ2.I 0 22 ∧ σ2.I 0 22 ≤ 60000) ∧ (0 ≤ σ2.I 0 29 ∧ 0 ≤ σ2.I 0 30) ∧ (σ2.I 0 29 + σ2.I 0 30 ≤ 24000) ∧ (1 = 1) ∧ (0 ≤ (0 : Int) ∧ 0 ≤ y3 ∧ y3 ≤ 1000 ∧ (0 : Int) + y3 ≤ 30000) ∧ (0 ≤ x1 ∧ x1 < σ2.I 0 9 ∧ σ2.I 0 9 ≤ 12) ∧ (σ2.I 16 x1 = 0 ∨ σ2.I 16 x1 = 1) ∧ (σ2.I 16 x1 = 0 → 0 ≤ σ2.I 17 x1 ∧ σ2.I 17 x1 < σ2.I 0 4) ∧ (AN σ2) ∧ (ANX σ2) ∧ (bd_0_20 σ2 12 250) ∧ (TC σ2) ∧ (TU σ2) ∧ (0 ≤ σ2.I 18 7 ∧ σ2.I 18 7 ≤ 30000) ∧ (bd_0_20 σ2 21 36500) ∧ (bd_0_12 σ2 20 36500) ∧ (σ2.I 0 4 ≤ 6) ∧ (∀ (y107 : Int) (σ106 : Sto), 0 ≤ y107 ∧ y107 ≤ 1 → SF σ2 σ106 → (((¬ (σ2.I 0 20 - σ2.I 0 31 < 24 ∧ σ2.I 0 20 < 6000 ∧ σ2.I 0 22 + y3 ≤ 60000 ∧ σ2.I 0 29 + σ2.I 0 30 + (lTX σ2 x1 (σ2.I 1) (0 : Int) y3).1 ≤ 24000) ∧ y107 = 0 ∧ KXt 10 σ2 σ106) ∨ ((σ2.I 0 20 - σ2.I 0 31 < 24 ∧ σ2.I 0 20 < 6000 ∧ σ2.I 0 22 + y3 ≤ 60000 ∧ σ2.I 0 29 + σ2.I 0 30 + (lTX σ2 x1 (σ2.I 1) (0 : Int) y3).1 ≤ 24000) ∧ y107 = 1 ∧ TXX σ2 σ106 x1 (σ2.I 1) (0 : Int) y3 (lTX σ2 x1 (σ2.I 1) (0 : Int) y3))) ∧ (bd_0_20 σ106 12 250)) → (y107 = 0 → Q (.inl (some (aI (-3)))) σ106) ∧ (y107 ≠ 0 → 1 ≤ d ∧ (0 ≤ σ106.I 0 20 ∧ σ106.I 0 20 < 6000) ∧ (0 ≤ σ106.I 0 31 ∧ σ106.I 0 31 ≤ σ106.I 0 20) ∧ (0 ≤ x1 ∧ x1 ≤ 12) ∧ (∀ (y114 : Int) (σ113 : Sto), inR y114 → SF σ106 σ113 → ((y114 = σ106.I 0 20 + 1 - σ106.I 0 31) ∧ (RD σ106 σ113 (fun c i => if at2 c i 26 (σ106.I 0 20) then x1 else if at2 c i 0 20 then σ106.I 0 20 + 1 else σ106.I c i))) → Q (.inl (some (aI y114))) σ113)))) ∧ ((σ2.I 16 x1) = 1 → (y3 ≠ 0 → 20 ≤ d ∧ (0 ≤ σ2.I 0 31 ∧ σ2.I 0 31 ≤ σ2.I 0 20) ∧ (σ2.I 0 20 ≤ 6000 ∧ σ2.I 0 20 ≤ σ2.I 0 31 + 24) ∧ (0 ≤ σ2.I 0 22 ∧ σ2.I 0 22 ≤ 60000) ∧ (0 ≤ σ2.I 0 29 ∧ 0 ≤ σ2.I 0 30) ∧ (σ2.I 0 29 + σ2.I 0 30 ≤ 24000) ∧ (1 = 1) ∧ (0 ≤ (0 : Int) ∧ 0 ≤ y3 ∧ y3 ≤ 1000 ∧ (0 : Int) + y3 ≤ 30000) ∧ (0 ≤ x1 ∧ x1 < σ2.I 0 9 ∧ σ2.I 0 9 ≤ 12) ∧ (σ2.I 16 x1 = 0 ∨ σ2.I 16 x1 = 1) ∧ (σ2.I 16 x1 = 0 → 0 ≤ σ2.I 17 x1 ∧ σ2.I 17 x1 < σ2.I 0 4) ∧ (AN σ2) ∧ (ANX σ2) ∧ (bd_0_20 σ2 12 250) ∧ (TC σ2) ∧ (TU σ2) ∧ (0 ≤ σ2.I 18 7 ∧ σ2.I 18 7 ≤ 30000) ∧ (bd_0_20 σ2 21 36500) ∧ (bd_0_12 σ2 20 36500) ∧ (σ2.I 0 4 ≤ 6) ∧ (∀ (y137 : Int) (σ136 : Sto), 0 ≤ y137 ∧ y137 ≤ 1 → SF σ2 σ136 → (((¬ (σ2.I 0 20 - σ2.I 0 31 < 24 ∧ σ2.I 0 20 < 6000 ∧ σ2.I 0 22 + y3 ≤ 60000 ∧ σ2.I 0 29 + σ2.I 0 30 + (lTX σ2 x1 (σ2.I 1) (0 : Int) y3).1 ≤ 24000) ∧ y137 = 0 ∧ KXt 10 σ2 σ136) ∨ ((σ2.I 0 20 - σ2.I 0 31 < 24 ∧ σ2.I 0 20 < 6000 ∧ σ2.I 0 22 + y3 ≤ 60000 ∧ σ2.I 0 29 + σ2.I 0 30 + (lTX σ2 x1 (σ2.I 1) (0 : Int) y3).1 ≤ 24000) ∧ y137 = 1 ∧ TXX σ2 σ136 x1 (σ2.I 1) (0 : Int) y3 (lTX σ2 x1 (σ2.I 1) (0 : Int) y3))) ∧ (bd_0_20 σ136 12 250)) → (y137 = 0 → Q (.inl (some (aI (-3)))) σ136) ∧ (y137 ≠ 0 → 1 ≤ d ∧ (0 ≤ σ136.I 0 20 ∧ σ136.I 0 20 < 6000) ∧ (0 ≤ σ136.I 0 31 ∧ σ136.I 0 31 ≤ σ136.I 0 20) ∧ (0 ≤ x1 ∧ x1 ≤ 12) ∧ (∀ (y144 : Int) (σ143 : Sto), inR y144 → SF σ136 σ143 → ((y144 = σ136.I 0 20 + 1 - σ136.I 0 31) ∧ (RD σ136 σ143 (fun c i => if at2 c i 26 (σ136.I 0 20) then x1 else if at2 c i 0 20 then σ136.I 0 20 + 1 else σ136.I c i))) → Q (.inl (some (aI y144))) σ143)))) ∧ (y3 = 0 → Q (.inl (some (aI (-1)))) σ2))))) ∧ (¬ ((0 ≤ x1 ∧ x1 < σ2.I 0 9) ∧ σ2.I 16 x1 = (1 : Int)) → Q (.inl (some (aI (-1)))) σ2)))) : VV E mX0_text (d + 1) 0 [(0, aO 0), (1, aI (x1))] [] σ Q := by
  refine v_aload_n 0 DX0_text_0W rfl rfl <| ?_
  obtain ⟨k1, h⟩ := h
  refine v_invV (ci := 0) (as := []) (st := []) DX0_text_1W rfl okX0_take (Or.inl q373) q375 (s_0 hL) rfl qs1 npX0_take (sp_X0_take (σ := σ)  k1 hL ) (Nat.le_of_ble_eq_true rfl) (Nat.le_refl _) (Nat.le_of_ble_eq_true rfl) (RVI_ret (fun y3 σ2 y3f gσ2 eσ2 => ?_)) RVI_thr
  have h := h y3 σ2 y3f gσ2 eσ2
  refine v_istore_n DX0_text_4W rfl (by decide) rfl <| v_aload_n 1 DX0_text_5W rfl rfl <| v_iload_n 2 DX0_text_6W rfl rfl <| v_iconst DX0_text_7W <| ?_
  obtain ⟨k4, h⟩ := h
  obtain ⟨k5, k6, k7, h⟩ := h
  refine v_invV (ci := 0) (as := [aI (x1), aI (0)]) (st := []) DX0_text_8W rfl okX0_isKind (Or.inl q1363) q1365 (s_0 (hL.sf gσ2)) rfl qs16 npX0_isKind (sp_X0_isKind (σ := σ2) (x1 := x1) (x2 := (0 : Int)) k4 (hL.sf gσ2) k5 k6 k7) (Nat.le_of_ble_eq_true rfl) (Nat.le_refl _) (Nat.le_of_ble_eq_true rfl) (RZ_ret (fun c8 => ?_) (fun c8 => ?_)) RZ_thr
  · have h := h.1 c8
    refine v_if_ne (tg := 23) DX0_text_11W (by decide) ⟨by decide, by decide⟩ (fun c9 => ?_) (fun c9 => absurd c9 (by decide))
    refine v_iload_n 0 DX0_text_23W rfl rfl <| v_sipush DX0_text_24W ⟨by decide, by decide⟩ <| ?_
    refine v_icmp_gt (tg := 44) DX0_text_27W (by decide) y3f ⟨by decide, by decide⟩ (fun c10 => ?_) (fun c10 => ?_)
    · have h := h.1 c10
      refine v_iconst DX0_text_44W <| ?_
      exact v_iret DX0_text_45W rfl rfl h
    · have h := h.2 c10
      refine v_aload_n 1 DX0_text_30W rfl rfl <| w_getR (ci := 0) (kf := 7) (kz := 7) DX0_text_31W (s_0 (hL.sf gσ2)) rfl (by decide) rfl (Or.inl q1005) (fun _ _ => rfl) (r_0_7 (hL.sf gσ2)) <| v_iload_n 2 DX0_text_34W rfl rfl <| ?_
      obtain ⟨k11, k12, h⟩ := h
      refine v_iald DX0_text_35W (s_16 (hL.sf gσ2)) k11 k12 (fun f13 => ?_)
      have h := h f13
      refine v_iconst DX0_text_36W <| ?_
      refine v_icmp_ne (tg := 46) DX0_text_37W (by decide) f13 ⟨by decide, by decide⟩ (fun c14 => ?_) (fun c14 => ?_)
      · have h := h.1 c14
        refine v_aload_n 1 DX0_text_46W rfl rfl <| v_iload_n 2 DX0_text_47W rfl rfl <| v_aload_n 1 DX0_text_48W rfl rfl <| w_getR (ci := 0) (kf := 0) (kz := 0) DX0_text_49W (s_0 (hL.sf gσ2)) rfl (by decide) rfl (Or.inl q990) (fun _ _ => rfl) (r_0_0 (hL.sf gσ2)) <| v_iconst DX0_text_52W <| v_iload_n 0 DX0_text_53W rfl rfl <| ?_
        obtain ⟨k15, h⟩ := h
        obtain ⟨k16, k17, k18, k19, k20, k21, k22, k23, k24, k25, k26, k27, k28, k29, k30, k31, k32, k33, k34, h⟩ := h
        refine v_invV (ci := 0) (as := [aI (x1), aO 1, aI (0), aI (y3)]) (st := []) DX0_text_54W rfl okX0_addText (Or.inl q1371) q1373 (s_0 (hL.sf gσ2)) rfl qs18 npX0_addText (sp_X0_addText (σ := σ2) (x1 := x1) (o2 := 1) (n2 := 30000) (x3 := (0 : Int)) (x4 := y3) k15 (hL.sf gσ2) (s_1 (hL.sf gσ2)) k16 k17 k18 k19 k20 k21 k22 k23 k24 k25 k26 k27 k28 k29 k30 k31 k32 k33 k34) (Nat.le_of_ble_eq_true rfl) (Nat.le_refl _) (Nat.le_of_ble_eq_true rfl) (RVZ_ret (fun y36 σ35 y36f gσ35 eσ35 => ?_)) RVZ_thr
        have h := h y36 σ35 y36f gσ35 eσ35
        refine v_if_eq (tg := 68) DX0_text_57W (by decide) (inR_z y36f) (fun c37 => ?_) (fun c37 => ?_)
        · have h := h.1 c37
          refine v_bipush DX0_text_68W ⟨by decide, by decide⟩ <| ?_
          exact v_iret DX0_text_70W rfl rfl h
        · have h := h.2 c37
          refine v_aload_n 1 DX0_text_60W rfl rfl <| v_iload_n 2 DX0_text_61W rfl rfl <| ?_
          obtain ⟨k38, h⟩ := h
          obtain ⟨k39, k40, k41, h⟩ := h
          refine v_invV (ci := 0) (as := [aI (x1)]) (st := []) DX0_text_62W rfl okX0_came (Or.inl q1398) q1400 (s_0 ((hL.sf gσ2).sf gσ35)) rfl qs21 npX0_came (sp_X0_came (σ := σ35) (x1 := x1) k38 ((hL.sf gσ2).sf gσ35) k39 k40 k41) (Nat.le_of_ble_eq_true rfl) (Nat.le_refl _) (Nat.le_of_ble_eq_true rfl) (RVI_ret (fun y43 σ42 y43f gσ42 eσ42 => ?_)) RVI_thr
          have h := h y43 σ42 y43f gσ42 eσ42
          refine v_goto (pc' := 70) DX0_text_65W.1 (by decide) <| ?_
          exact v_iret DX0_text_70W rfl rfl h
      · have h := h.2 c14
        refine v_iload_n 0 DX0_text_40W rfl rfl <| ?_
        refine v_if_ne (tg := 46) DX0_text_41W (by decide) y3f (fun c44 => ?_) (fun c44 => ?_)
        · have h := h.1 c44
          refine v_aload_n 1 DX0_text_46W rfl rfl <| v_iload_n 2 DX0_text_47W rfl rfl <| v_aload_n 1 DX0_text_48W rfl rfl <| w_getR (ci := 0) (kf := 0) (kz := 0) DX0_text_49W (s_0 (hL.sf gσ2)) rfl (by decide) rfl (Or.inl q990) (fun _ _ => rfl) (r_0_0 (hL.sf gσ2)) <| v_iconst DX0_text_52W <| v_iload_n 0 DX0_text_53W rfl rfl <| ?_
          obtain ⟨k45, h⟩ := h
          obtain ⟨k46, k47, k48, k49, k50, k51, k52, k53, k54, k55, k56, k57, k58, k59, k60, k61, k62, k63, k64, h⟩ := h
          refine v_invV (ci := 0) (as := [aI (x1), aO 1, aI (0), aI (y3)]) (st := []) DX0_text_54W rfl okX0_addText (Or.inl q1371) q1373 (s_0 (hL.sf gσ2)) rfl qs18 npX0_addText (sp_X0_addText (σ := σ2) (x1 := x1) (o2 := 1) (n2 := 30000) (x3 := (0 : Int)) (x4 := y3) k45 (hL.sf gσ2) (s_1 (hL.sf gσ2)) k46 k47 k48 k49 k50 k51 k52 k53 k54 k55 k56 k57 k58 k59 k60 k61 k62 k63 k64) (Nat.le_of_ble_eq_true rfl) (Nat.le_refl _) (Nat.le_of_ble_eq_true rfl) (RVZ_ret (fun y66 σ65 y66f gσ65 eσ65 => ?_)) RVZ_thr
          have h := h y66 σ65 y66f gσ65 eσ65
          refine v_if_eq (tg := 68) DX0_text_57W (by decide) (inR_z y66f) (fun c67 => ?_) (fun c67 => ?_)
          · have h := h.1 c67
            refine v_bipush DX0_text_68W ⟨by decide, by decide⟩ <| ?_
            exact v_iret DX0_text_70W rfl rfl h
          · have h := h.2 c67
            refine v_aload_n 1 DX0_text_60W rfl rfl <| v_iload_n 2 DX0_text_61W rfl rfl <| ?_
            obtain ⟨k68, h⟩ := h
            obtain ⟨k69, k70, k71, h⟩ := h
            refine v_invV (ci := 0) (as := [aI (x1)]) (st := []) DX0_text_62W rfl okX0_came (Or.inl q1398) q1400 (s_0 ((hL.sf gσ2).sf gσ65)) rfl qs21 npX0_came (sp_X0_came (σ := σ65) (x1 := x1) k68 ((hL.sf gσ2).sf gσ65) k69 k70 k71) (Nat.le_of_ble_eq_true rfl) (Nat.le_refl _) (Nat.le_of_ble_eq_true rfl) (RVI_ret (fun y73 σ72 y73f gσ72 eσ72 => ?_)) RVI_thr
            have h := h y73 σ72 y73f gσ72 eσ72
            refine v_goto (pc' := 70) DX0_text_65W.1 (by decide) <| ?_
            exact v_iret DX0_text_70W rfl rfl h
        · have h := h.2 c44
          refine v_iconst DX0_text_44W <| ?_
          exact v_iret DX0_text_45W rfl rfl h
  · have h := h.2 c8
    refine v_if_ne (tg := 23) DX0_text_11W (by decide) ⟨by decide, by decide⟩ (fun c74 => absurd c74 (by decide)) (fun c74 => ?_)
    refine v_aload_n 1 DX0_text_14W rfl rfl <| v_iload_n 2 DX0_text_15W rfl rfl <| v_iconst DX0_text_16W <| ?_
    obtain ⟨k75, h⟩ := h
    obtain ⟨k76, k77, k78, h⟩ := h
    refine v_invV (ci := 0) (as := [aI (x1), aI (1)]) (st := []) DX0_text_17W rfl okX0_isKind (Or.inl q1363) q1365 (s_0 (hL.sf gσ2)) rfl qs16 npX0_isKind (sp_X0_isKind (σ := σ2) (x1 := x1) (x2 := (1 : Int)) k75 (hL.sf gσ2) k76 k77 k78) (Nat.le_of_ble_eq_true rfl) (Nat.le_refl _) (Nat.le_of_ble_eq_true rfl) (RZ_ret (fun c79 => ?_) (fun c79 => ?_)) RZ_thr
    · have h := h.1 c79
      refine v_if_eq (tg := 44) DX0_text_20W (by decide) ⟨by decide, by decide⟩ (fun c80 => absurd c80 (by decide)) (fun c80 => ?_)
      refine v_iload_n 0 DX0_text_23W rfl rfl <| v_sipush DX0_text_24W ⟨by decide, by decide⟩ <| ?_
      refine v_icmp_gt (tg := 44) DX0_text_27W (by decide) y3f ⟨by decide, by decide⟩ (fun c81 => ?_) (fun c81 => ?_)
      · have h := h.1 c81
        refine v_iconst DX0_text_44W <| ?_
        exact v_iret DX0_text_45W rfl rfl h
      · have h := h.2 c81
        refine v_aload_n 1 DX0_text_30W rfl rfl <| w_getR (ci := 0) (kf := 7) (kz := 7) DX0_text_31W (s_0 (hL.sf gσ2)) rfl (by decide) rfl (Or.inl q1005) (fun _ _ => rfl) (r_0_7 (hL.sf gσ2)) <| v_iload_n 2 DX0_text_34W rfl rfl <| ?_
        obtain ⟨k82, k83, h⟩ := h
        refine v_iald DX0_text_35W (s_16 (hL.sf gσ2)) k82 k83 (fun f84 => ?_)
        have h := h f84
        refine v_iconst DX0_text_36W <| ?_
        refine v_icmp_ne (tg := 46) DX0_text_37W (by decide) f84 ⟨by decide, by decide⟩ (fun c85 => ?_) (fun c85 => ?_)
        · have h := h.1 c85
          refine v_aload_n 1 DX0_text_46W rfl rfl <| v_iload_n 2 DX0_text_47W rfl rfl <| v_aload_n 1 DX0_text_48W rfl rfl <| w_getR (ci := 0) (kf := 0) (kz := 0) DX0_text_49W (s_0 (hL.sf gσ2)) rfl (by decide) rfl (Or.inl q990) (fun _ _ => rfl) (r_0_0 (hL.sf gσ2)) <| v_iconst DX0_text_52W <| v_iload_n 0 DX0_text_53W rfl rfl <| ?_
          obtain ⟨k86, h⟩ := h
          obtain ⟨k87, k88, k89, k90, k91, k92, k93, k94, k95, k96, k97, k98, k99, k100, k101, k102, k103, k104, k105, h⟩ := h
          refine v_invV (ci := 0) (as := [aI (x1), aO 1, aI (0), aI (y3)]) (st := []) DX0_text_54W rfl okX0_addText (Or.inl q1371) q1373 (s_0 (hL.sf gσ2)) rfl qs18 npX0_addText (sp_X0_addText (σ := σ2) (x1 := x1) (o2 := 1) (n2 := 30000) (x3 := (0 : Int)) (x4 := y3) k86 (hL.sf gσ2) (s_1 (hL.sf gσ2)) k87 k88 k89 k90 k91 k92 k93 k94 k95 k96 k97 k98 k99 k100 k101 k102 k103 k104 k105) (Nat.le_of_ble_eq_true rfl) (Nat.le_refl _) (Nat.le_of_ble_eq_true rfl) (RVZ_ret (fun y107 σ106 y107f gσ106 eσ106 => ?_)) RVZ_thr
          have h := h y107 σ106 y107f gσ106 eσ106
          refine v_if_eq (tg := 68) DX0_text_57W (by decide) (inR_z y107f) (fun c108 => ?_) (fun c108 => ?_)
          · have h := h.1 c108
            refine v_bipush DX0_text_68W ⟨by decide, by decide⟩ <| ?_
            exact v_iret DX0_text_70W rfl rfl h
          · have h := h.2 c108
            refine v_aload_n 1 DX0_text_60W rfl rfl <| v_iload_n 2 DX0_text_61W rfl rfl <| ?_
            obtain ⟨k109, h⟩ := h
            obtain ⟨k110, k111, k112, h⟩ := h
            refine v_invV (ci := 0) (as := [aI (x1)]) (st := []) DX0_text_62W rfl okX0_came (Or.inl q1398) q1400 (s_0 ((hL.sf gσ2).sf gσ106)) rfl qs21 npX0_came (sp_X0_came (σ := σ106) (x1 := x1) k109 ((hL.sf gσ2).sf gσ106) k110 k111 k112) (Nat.le_of_ble_eq_true rfl) (Nat.le_refl _) (Nat.le_of_ble_eq_true rfl) (RVI_ret (fun y114 σ113 y114f gσ113 eσ113 => ?_)) RVI_thr
            have h := h y114 σ113 y114f gσ113 eσ113
            refine v_goto (pc' := 70) DX0_text_65W.1 (by decide) <| ?_
            exact v_iret DX0_text_70W rfl rfl h
        · have h := h.2 c85
          refine v_iload_n 0 DX0_text_40W rfl rfl <| ?_
          refine v_if_ne (tg := 46) DX0_text_41W (by decide) y3f (fun c115 => ?_) (fun c115 => ?_)
          · have h := h.1 c115
            refine v_aload_n 1 DX0_text_46W rfl rfl <| v_iload_n 2 DX0_text_47W rfl rfl <| v_aload_n 1 DX0_text_48W rfl rfl <| w_getR (ci := 0) (kf := 0) (kz := 0) DX0_text_49W (s_0 (hL.sf gσ2)) rfl (by decide) rfl (Or.inl q990) (fun _ _ => rfl) (r_0_0 (hL.sf gσ2)) <| v_iconst DX0_text_52W <| v_iload_n 0 DX0_text_53W rfl rfl <| ?_
            obtain ⟨k116, h⟩ := h
            obtain ⟨k117, k118, k119, k120, k121, k122, k123, k124, k125, k126, k127, k128, k129, k130, k131, k132, k133, k134, k135, h⟩ := h
            refine v_invV (ci := 0) (as := [aI (x1), aO 1, aI (0), aI (y3)]) (st := []) DX0_text_54W rfl okX0_addText (Or.inl q1371) q1373 (s_0 (hL.sf gσ2)) rfl qs18 npX0_addText (sp_X0_addText (σ := σ2) (x1 := x1) (o2 := 1) (n2 := 30000) (x3 := (0 : Int)) (x4 := y3) k116 (hL.sf gσ2) (s_1 (hL.sf gσ2)) k117 k118 k119 k120 k121 k122 k123 k124 k125 k126 k127 k128 k129 k130 k131 k132 k133 k134 k135) (Nat.le_of_ble_eq_true rfl) (Nat.le_refl _) (Nat.le_of_ble_eq_true rfl) (RVZ_ret (fun y137 σ136 y137f gσ136 eσ136 => ?_)) RVZ_thr
            have h := h y137 σ136 y137f gσ136 eσ136
            refine v_if_eq (tg := 68) DX0_text_57W (by decide) (inR_z y137f) (fun c138 => ?_) (fun c138 => ?_)
            · have h := h.1 c138
              refine v_bipush DX0_text_68W ⟨by decide, by decide⟩ <| ?_
              exact v_iret DX0_text_70W rfl rfl h
            · have h := h.2 c138
              refine v_aload_n 1 DX0_text_60W rfl rfl <| v_iload_n 2 DX0_text_61W rfl rfl <| ?_
              obtain ⟨k139, h⟩ := h
              obtain ⟨k140, k141, k142, h⟩ := h
              refine v_invV (ci := 0) (as := [aI (x1)]) (st := []) DX0_text_62W rfl okX0_came (Or.inl q1398) q1400 (s_0 ((hL.sf gσ2).sf gσ136)) rfl qs21 npX0_came (sp_X0_came (σ := σ136) (x1 := x1) k139 ((hL.sf gσ2).sf gσ136) k140 k141 k142) (Nat.le_of_ble_eq_true rfl) (Nat.le_refl _) (Nat.le_of_ble_eq_true rfl) (RVI_ret (fun y144 σ143 y144f gσ143 eσ143 => ?_)) RVI_thr
              have h := h y144 σ143 y144f gσ143 eσ143
              refine v_goto (pc' := 70) DX0_text_65W.1 (by decide) <| ?_
              exact v_iret DX0_text_70W rfl rfl h
          · have h := h.2 c115
            refine v_iconst DX0_text_44W <| ?_
            exact v_iret DX0_text_45W rfl rfl h
    · have h := h.2 c79
      refine v_if_eq (tg := 44) DX0_text_20W (by decide) ⟨by decide, by decide⟩ (fun c145 => ?_) (fun c145 => absurd c145 (by decide))
      refine v_iconst DX0_text_44W <| ?_
      exact v_iret DX0_text_45W rfl rfl h
theorem sp_X0_textW {E : XE} {d : Nat} {σ : Sto} {x1 : Int} (hd : 22 ≤ d) (hL : Lay σ)  (p0 : inR x1) (p1 : 0 ≤ σ.I 0 31 ∧ σ.I 0 31 ≤ σ.I 0 20) (p2 : σ.I 0 20 ≤ 6000 ∧ σ.I 0 20 ≤ σ.I 0 31 + 24) (p3 : 0 ≤ σ.I 0 22 ∧ σ.I 0 22 ≤ 60000) (p4 : 0 ≤ σ.I 0 29 ∧ 0 ≤ σ.I 0 30) (p5 : σ.I 0 29 + σ.I 0 30 ≤ 24000) (p6 : 0 ≤ σ.I 0 1 ∧ σ.I 0 1 ≤ 30000) (p7 : 0 ≤ σ.I 0 9 ∧ σ.I 0 9 ≤ 12) (p8 : (0 ≤ x1 ∧ x1 < σ.I 0 9) → σ.I 16 x1 = 0 → 0 ≤ σ.I 17 x1 ∧ σ.I 17 x1 < σ.I 0 4) (p9 : AN σ) (p10 : ANX σ) (p11 : bd_0_20 σ 12 250) (p12 : TC σ) (p13 : TU σ) (p14 : 0 ≤ σ.I 18 7 ∧ σ.I 18 7 ≤ 30000) (p15 : bd_0_20 σ 21 36500) (p16 : bd_0_12 σ 20 36500) (p17 : σ.I 0 4 ≤ 6) : CC E mX0_text d [aO 0, aI (x1)] σ (RVI (fun y τ => (TXP σ τ y x1 (σ.I 0 1)) ∧ (bd_0_20 τ 12 250))) := by
  obtain ⟨d, rfl⟩ : ∃ e, d = e + 1 := ⟨d - 1, by omega⟩
  have p0a := p0.1; have p0b := p0.2
  refine ucX0_text_0W  hL  ?_
  refine ⟨?_, ?_⟩
  · omega
  rintro y3 σ2 ⟨y3f, y3fq⟩ gσ2 ⟨eσ2_0, ⟨⟨eσ2_1r, eσ2_1s, eσ2_1n⟩, eσ2_1⟩, eσ2_2⟩
  have k2 : ∀ c i, ¬ (c = 0 ∧ i = 1) → σ2.I c i = σ.I c i := fun c i q => eσ2_1 c i q
  have g31 : σ2.I 0 31 = σ.I 0 31 := k2 _ _ (by omega)
  have g20 : σ2.I 0 20 = σ.I 0 20 := k2 _ _ (by omega)
  have g22 : σ2.I 0 22 = σ.I 0 22 := k2 _ _ (by omega)
  have g29 : σ2.I 0 29 = σ.I 0 29 := k2 _ _ (by omega)
  have g30 : σ2.I 0 30 = σ.I 0 30 := k2 _ _ (by omega)
  have g9 : σ2.I 0 9 = σ.I 0 9 := k2 _ _ (by omega)
  have g4 : σ2.I 0 4 = σ.I 0 4 := k2 _ _ (by omega)
  have g16 : σ2.I 16 x1 = σ.I 16 x1 := k2 _ _ (by omega)
  have g17 : σ2.I 17 x1 = σ.I 17 x1 := k2 _ _ (by omega)
  have g18 : σ2.I 18 7 = σ.I 18 7 := k2 _ _ (by omega)
  have hAN : AN σ2 := AN_k p9 eσ2_1r eσ2_1s eσ2_1n g4
  have hAX : ANX σ2 := (by
    intro k k0 k1
    rw [g4] at k1
    have q := AN_g p9 k0 k1
    have ac : anC σ2 = anC σ := (by funext k; unfold anC; rw [eσ2_1r])
    rw [ac]
    exact ANBs_e (fun c x y => funext fun i => k2 c i (by omega)) (p10 k k0 k1))
  have hTC : TC σ2 := TC_e p12 (fun c i x y => k2 c i (by omega))
  have hTU : TU σ2 := TU_e p13 (fun c i x y => k2 c i (by omega))
  have h12 : bd_0_20 σ2 12 250 := bd_0_20_eq p11 (funext fun i => k2 _ _ (by omega))
  have h21 : bd_0_20 σ2 21 36500 := bd_0_20_eq p15 (funext fun i => k2 _ _ (by omega))
  have h20 : bd_0_12 σ2 20 36500 := bd_0_12_eq p16 (funext fun i => k2 _ _ (by omega))
  have hT2 : TKX σ σ2 := ⟨⟨⟨eσ2_1r, eσ2_1s, eσ2_1n⟩, eσ2_1⟩, eσ2_2⟩
  have h17 : σ2.I 16 x1 = 0 → (0 ≤ x1 ∧ x1 < σ2.I 0 9) → 0 ≤ σ2.I 17 x1 ∧ σ2.I 17 x1 < σ2.I 0 4 := fun a b => (by rw [g17, g4]; exact p8 (by omega) (by omega))
  have hbad : ¬ gdX σ2 x1 y3 → TXP σ σ2 (-1) x1 (σ.I 0 1) := fun q => ⟨σ2, hT2, Or.inl ⟨by rw [← eσ2_0]; exact q, rfl, rfl⟩⟩
  refine ⟨?_, ?_⟩
  · omega
  refine ⟨?_, ?_⟩
  · (first | omega | exact ⟨by omega, by omega⟩ | assumption)
  refine ⟨?_, ?_⟩
  · (first | omega | exact ⟨by omega, by omega⟩ | assumption)
  refine ⟨?_, ?_⟩
  · (first | omega | exact ⟨by omega, by omega⟩ | assumption)
  refine ⟨fun c1 => ?_, fun c2 => ?_⟩
  · refine ⟨fun c3 => ?_, fun c4 => ?_⟩
    · refine RVI_mk ?_ ?_
      · (first | exact ⟨by omega, by omega⟩ | assumption)
      · refine ⟨?_, ?_⟩
        · (first | exact hbad (fun z => by unfold gdX at z; omega) | exact ⟨σ2, hT2, Or.inr (Or.inl ⟨by rw [← eσ2_0]; exact ⟨⟨by omega, by omega⟩, by omega⟩, by rw [← eσ2_0]; exact (hno (by assumption)).1, rfl, (hno (by assumption)).2⟩)⟩ | exact ⟨σ2, hT2, Or.inr (Or.inr ⟨by rw [← eσ2_0]; exact ⟨⟨by omega, by omega⟩, by omega⟩, by rw [← eσ2_0]; exact (hye (by assumption)).1, (by rw [eσ42_0, (hn20 (by assumption)).1, (hn20 (by assumption)).2.1]), σ35, (by rw [← eσ2_0]; exact (hye (by assumption)).2), ⟨⟨eσ42_1r, eσ42_1s, eσ42_1n⟩, eσ42_1⟩⟩)⟩ | exact ⟨σ2, hT2, Or.inr (Or.inr ⟨by rw [← eσ2_0]; exact ⟨⟨by omega, by omega⟩, by omega⟩, by rw [← eσ2_0]; exact (hye (by assumption)).1, (by rw [eσ72_0, (hn20 (by assumption)).1, (hn20 (by assumption)).2.1]), σ65, (by rw [← eσ2_0]; exact (hye (by assumption)).2), ⟨⟨eσ72_1r, eσ72_1s, eσ72_1n⟩, eσ72_1⟩⟩)⟩ | exact ⟨σ2, hT2, Or.inr (Or.inr ⟨by rw [← eσ2_0]; exact ⟨⟨by omega, by omega⟩, by omega⟩, by rw [← eσ2_0]; exact (hye (by assumption)).1, (by rw [eσ113_0, (hn20 (by assumption)).1, (hn20 (by assumption)).2.1]), σ106, (by rw [← eσ2_0]; exact (hye (by assumption)).2), ⟨⟨eσ113_1r, eσ113_1s, eσ113_1n⟩, eσ113_1⟩⟩)⟩ | exact ⟨σ2, hT2, Or.inr (Or.inr ⟨by rw [← eσ2_0]; exact ⟨⟨by omega, by omega⟩, by omega⟩, by rw [← eσ2_0]; exact (hye (by assumption)).1, (by rw [eσ143_0, (hn20 (by assumption)).1, (hn20 (by assumption)).2.1]), σ136, (by rw [← eσ2_0]; exact (hye (by assumption)).2), ⟨⟨eσ143_1r, eσ143_1s, eσ143_1n⟩, eσ143_1⟩⟩)⟩)
        · (first | exact hb12 | exact h12 | exact eσ35_1 | exact eσ65_1 | exact eσ106_1 | exact eσ136_1)
    · refine ⟨?_, ?_⟩
      · (first | omega | exact ⟨by omega, by omega⟩ | assumption)
      refine ⟨?_, ?_⟩
      · (first | omega | exact ⟨by omega, by omega⟩ | assumption)
      rintro ⟨f5, f5q⟩
      refine ⟨fun c6 => ?_, fun c7 => ?_⟩
      · refine ⟨?_, ?_⟩
        · omega
        refine ⟨?_, ?_⟩
        · (first | omega | (have z := hn20 (by assumption); omega))
        refine ⟨?_, ?_⟩
        · (first | omega | exact ⟨by omega, by omega⟩ | assumption)
        refine ⟨?_, ?_⟩
        · (first | omega | exact ⟨by omega, by omega⟩ | assumption)
        refine ⟨?_, ?_⟩
        · (first | omega | exact ⟨by omega, by omega⟩ | assumption)
        refine ⟨?_, ?_⟩
        · (first | omega | exact ⟨by omega, by omega⟩ | assumption)
        refine ⟨?_, ?_⟩
        · (first | omega | exact ⟨by omega, by omega⟩ | assumption)
        refine ⟨?_, ?_⟩
        · (first | omega | exact ⟨by omega, by omega⟩ | assumption)
        refine ⟨?_, ?_⟩
        · (first | omega | exact ⟨by omega, by omega⟩ | assumption)
        refine ⟨?_, ?_⟩
        · (first | omega | exact ⟨by omega, by omega⟩ | assumption)
        refine ⟨?_, ?_⟩
        · (exact (fun z => h17 z ⟨by omega, by omega⟩))
        refine ⟨?_, ?_⟩
        · (exact hAN)
        refine ⟨?_, ?_⟩
        · (exact hAX)
        refine ⟨?_, ?_⟩
        · (exact h12)
        refine ⟨?_, ?_⟩
        · (exact hTC)
        refine ⟨?_, ?_⟩
        · (exact hTU)
        refine ⟨?_, ?_⟩
        · (first | omega | exact ⟨by omega, by omega⟩ | assumption)
        refine ⟨?_, ?_⟩
        · (exact h21)
        refine ⟨?_, ?_⟩
        · (exact h20)
        refine ⟨?_, ?_⟩
        · (first | omega | exact ⟨by omega, by omega⟩ | assumption)
        rintro y36 σ35 ⟨y36f, y36fq⟩ gσ35 ⟨eσ35_0, eσ35_1⟩
        have hno : y36 = 0 → ¬ myX σ2 x1 y3 ∧ KXt 10 σ2 σ35 := fun z => eσ35_0.elim (fun w => ⟨w.1, w.2.2⟩) (fun w => absurd (w.2.1.symm.trans z) (by decide))
        have hye : y36 ≠ 0 → myX σ2 x1 y3 ∧ TXX σ2 σ35 x1 (σ2.I 1) 0 y3 (lTX σ2 x1 (σ2.I 1) 0 y3) := fun z => eσ35_0.elim (fun w => absurd w.2.1 z) (fun w => ⟨w.1, w.2.2⟩)
        have hn20 : y36 ≠ 0 → σ35.I 0 20 = σ2.I 0 20 ∧ σ35.I 0 31 = σ2.I 0 31 ∧ σ2.I 0 20 < 6000 := fun z => ⟨(hye z).2.1.2 _ _ (by unfold wsTX; omega), (hye z).2.1.2 _ _ (by unfold wsTX; omega), (hye z).1.2.1⟩
        refine ⟨fun c8 => ?_, fun c9 => ?_⟩
        · refine RVI_mk ?_ ?_
          · (first | exact ⟨by omega, by omega⟩ | assumption)
          · refine ⟨?_, ?_⟩
            · (first | exact hbad (fun z => by unfold gdX at z; omega) | exact ⟨σ2, hT2, Or.inr (Or.inl ⟨by rw [← eσ2_0]; exact ⟨⟨by omega, by omega⟩, by omega⟩, by rw [← eσ2_0]; exact (hno (by assumption)).1, rfl, (hno (by assumption)).2⟩)⟩ | exact ⟨σ2, hT2, Or.inr (Or.inr ⟨by rw [← eσ2_0]; exact ⟨⟨by omega, by omega⟩, by omega⟩, by rw [← eσ2_0]; exact (hye (by assumption)).1, (by rw [eσ42_0, (hn20 (by assumption)).1, (hn20 (by assumption)).2.1]), σ35, (by rw [← eσ2_0]; exact (hye (by assumption)).2), ⟨⟨eσ42_1r, eσ42_1s, eσ42_1n⟩, eσ42_1⟩⟩)⟩ | exact ⟨σ2, hT2, Or.inr (Or.inr ⟨by rw [← eσ2_0]; exact ⟨⟨by omega, by omega⟩, by omega⟩, by rw [← eσ2_0]; exact (hye (by assumption)).1, (by rw [eσ72_0, (hn20 (by assumption)).1, (hn20 (by assumption)).2.1]), σ65, (by rw [← eσ2_0]; exact (hye (by assumption)).2), ⟨⟨eσ72_1r, eσ72_1s, eσ72_1n⟩, eσ72_1⟩⟩)⟩ | exact ⟨σ2, hT2, Or.inr (Or.inr ⟨by rw [← eσ2_0]; exact ⟨⟨by omega, by omega⟩, by omega⟩, by rw [← eσ2_0]; exact (hye (by assumption)).1, (by rw [eσ113_0, (hn20 (by assumption)).1, (hn20 (by assumption)).2.1]), σ106, (by rw [← eσ2_0]; exact (hye (by assumption)).2), ⟨⟨eσ113_1r, eσ113_1s, eσ113_1n⟩, eσ113_1⟩⟩)⟩ | exact ⟨σ2, hT2, Or.inr (Or.inr ⟨by rw [← eσ2_0]; exact ⟨⟨by omega, by omega⟩, by omega⟩, by rw [← eσ2_0]; exact (hye (by assumption)).1, (by rw [eσ143_0, (hn20 (by assumption)).1, (hn20 (by assumption)).2.1]), σ136, (by rw [← eσ2_0]; exact (hye (by assumption)).2), ⟨⟨eσ143_1r, eσ143_1s, eσ143_1n⟩, eσ143_1⟩⟩)⟩)
            · (first | exact hb12 | exact h12 | exact eσ35_1 | exact eσ65_1 | exact eσ106_1 | exact eσ136_1)
        · refine ⟨?_, ?_⟩
          · omega
          refine ⟨?_, ?_⟩
          · (first | omega | (have z := hn20 (by assumption); omega))
          refine ⟨?_, ?_⟩
          · (first | omega | (have z := hn20 (by assumption); omega))
          refine ⟨?_, ?_⟩
          · (first | omega | exact ⟨by omega, by omega⟩ | assumption)
          rintro y43 σ42 ⟨y43f, y43fq⟩ gσ42 ⟨eσ42_0, ⟨⟨eσ42_1r, eσ42_1s, eσ42_1n⟩, eσ42_1⟩⟩
          have hb12 : bd_0_20 σ42 12 250 := bd_0_20_eq eσ35_1 (funext fun i => by rw [eσ42_1]; show (if at2 12 i 26 _ then _ else if at2 12 i 0 20 then _ else _) = _; rw [if_neg (fun z => absurd z.1 (by decide)), if_neg (fun z => absurd z.1 (by decide))])
          refine RVI_mk ?_ ?_
          · (first | exact ⟨by omega, by omega⟩ | assumption)
          · refine ⟨?_, ?_⟩
            · (first | exact hbad (fun z => by unfold gdX at z; omega) | exact ⟨σ2, hT2, Or.inr (Or.inl ⟨by rw [← eσ2_0]; exact ⟨⟨by omega, by omega⟩, by omega⟩, by rw [← eσ2_0]; exact (hno (by assumption)).1, rfl, (hno (by assumption)).2⟩)⟩ | exact ⟨σ2, hT2, Or.inr (Or.inr ⟨by rw [← eσ2_0]; exact ⟨⟨by omega, by omega⟩, by omega⟩, by rw [← eσ2_0]; exact (hye (by assumption)).1, (by rw [eσ42_0, (hn20 (by assumption)).1, (hn20 (by assumption)).2.1]), σ35, (by rw [← eσ2_0]; exact (hye (by assumption)).2), ⟨⟨eσ42_1r, eσ42_1s, eσ42_1n⟩, eσ42_1⟩⟩)⟩ | exact ⟨σ2, hT2, Or.inr (Or.inr ⟨by rw [← eσ2_0]; exact ⟨⟨by omega, by omega⟩, by omega⟩, by rw [← eσ2_0]; exact (hye (by assumption)).1, (by rw [eσ72_0, (hn20 (by assumption)).1, (hn20 (by assumption)).2.1]), σ65, (by rw [← eσ2_0]; exact (hye (by assumption)).2), ⟨⟨eσ72_1r, eσ72_1s, eσ72_1n⟩, eσ72_1⟩⟩)⟩ | exact ⟨σ2, hT2, Or.inr (Or.inr ⟨by rw [← eσ2_0]; exact ⟨⟨by omega, by omega⟩, by omega⟩, by rw [← eσ2_0]; exact (hye (by assumption)).1, (by rw [eσ113_0, (hn20 (by assumption)).1, (hn20 (by assumption)).2.1]), σ106, (by rw [← eσ2_0]; exact (hye (by assumption)).2), ⟨⟨eσ113_1r, eσ113_1s, eσ113_1n⟩, eσ113_1⟩⟩)⟩ | exact ⟨σ2, hT2, Or.inr (Or.inr ⟨by rw [← eσ2_0]; exact ⟨⟨by omega, by omega⟩, by omega⟩, by rw [← eσ2_0]; exact (hye (by assumption)).1, (by rw [eσ143_0, (hn20 (by assumption)).1, (hn20 (by assumption)).2.1]), σ136, (by rw [← eσ2_0]; exact (hye (by assumption)).2), ⟨⟨eσ143_1r, eσ143_1s, eσ143_1n⟩, eσ143_1⟩⟩)⟩)
            · (first | exact hb12 | exact h12 | exact eσ35_1 | exact eσ65_1 | exact eσ106_1 | exact eσ136_1)
      · refine ⟨fun c10 => ?_, fun c11 => ?_⟩
        · refine ⟨?_, ?_⟩
          · omega
          refine ⟨?_, ?_⟩
          · (first | omega | (have z := hn20 (by assumption); omega))
          refine ⟨?_, ?_⟩
          · (first | omega | exact ⟨by omega, by omega⟩ | assumption)
          refine ⟨?_, ?_⟩
          · (first | omega | exact ⟨by omega, by omega⟩ | assumption)
          refine ⟨?_, ?_⟩
          · (first | omega | exact ⟨by omega, by omega⟩ | assumption)
          refine ⟨?_, ?_⟩
          · (first | omega | exact ⟨by omega, by omega⟩ | assumption)
          refine ⟨?_, ?_⟩
          · (first | omega | exact ⟨by omega, by omega⟩ | assumption)
          refine ⟨?_, ?_⟩
          · (first | omega | exact ⟨by omega, by omega⟩ | assumption)
          refine ⟨?_, ?_⟩
          · (first | omega | exact ⟨by omega, by omega⟩ | assumption)
          refine ⟨?_, ?_⟩
          · (first | omega | exact ⟨by omega, by omega⟩ | assumption)
          refine ⟨?_, ?_⟩
          · (exact (fun z => h17 z ⟨by omega, by omega⟩))
          refine ⟨?_, ?_⟩
          · (exact hAN)
          refine ⟨?_, ?_⟩
          · (exact hAX)
          refine ⟨?_, ?_⟩
          · (exact h12)
          refine ⟨?_, ?_⟩
          · (exact hTC)
          refine ⟨?_, ?_⟩
          · (exact hTU)
          refine ⟨?_, ?_⟩
          · (first | omega | exact ⟨by omega, by omega⟩ | assumption)
          refine ⟨?_, ?_⟩
          · (exact h21)
          refine ⟨?_, ?_⟩
          · (exact h20)
          refine ⟨?_, ?_⟩
          · (first | omega | exact ⟨by omega, by omega⟩ | assumption)
          rintro y66 σ65 ⟨y66f, y66fq⟩ gσ65 ⟨eσ65_0, eσ65_1⟩
          have hno : y66 = 0 → ¬ myX σ2 x1 y3 ∧ KXt 10 σ2 σ65 := fun z => eσ65_0.elim (fun w => ⟨w.1, w.2.2⟩) (fun w => absurd (w.2.1.symm.trans z) (by decide))
          have hye : y66 ≠ 0 → myX σ2 x1 y3 ∧ TXX σ2 σ65 x1 (σ2.I 1) 0 y3 (lTX σ2 x1 (σ2.I 1) 0 y3) := fun z => eσ65_0.elim (fun w => absurd w.2.1 z) (fun w => ⟨w.1, w.2.2⟩)
          have hn20 : y66 ≠ 0 → σ65.I 0 20 = σ2.I 0 20 ∧ σ65.I 0 31 = σ2.I 0 31 ∧ σ2.I 0 20 < 6000 := fun z => ⟨(hye z).2.1.2 _ _ (by unfold wsTX; omega), (hye z).2.1.2 _ _ (by unfold wsTX; omega), (hye z).1.2.1⟩
          refine ⟨fun c12 => ?_, fun c13 => ?_⟩
          · refine RVI_mk ?_ ?_
            · (first | exact ⟨by omega, by omega⟩ | assumption)
            · refine ⟨?_, ?_⟩
              · (first | exact hbad (fun z => by unfold gdX at z; omega) | exact ⟨σ2, hT2, Or.inr (Or.inl ⟨by rw [← eσ2_0]; exact ⟨⟨by omega, by omega⟩, by omega⟩, by rw [← eσ2_0]; exact (hno (by assumption)).1, rfl, (hno (by assumption)).2⟩)⟩ | exact ⟨σ2, hT2, Or.inr (Or.inr ⟨by rw [← eσ2_0]; exact ⟨⟨by omega, by omega⟩, by omega⟩, by rw [← eσ2_0]; exact (hye (by assumption)).1, (by rw [eσ42_0, (hn20 (by assumption)).1, (hn20 (by assumption)).2.1]), σ35, (by rw [← eσ2_0]; exact (hye (by assumption)).2), ⟨⟨eσ42_1r, eσ42_1s, eσ42_1n⟩, eσ42_1⟩⟩)⟩ | exact ⟨σ2, hT2, Or.inr (Or.inr ⟨by rw [← eσ2_0]; exact ⟨⟨by omega, by omega⟩, by omega⟩, by rw [← eσ2_0]; exact (hye (by assumption)).1, (by rw [eσ72_0, (hn20 (by assumption)).1, (hn20 (by assumption)).2.1]), σ65, (by rw [← eσ2_0]; exact (hye (by assumption)).2), ⟨⟨eσ72_1r, eσ72_1s, eσ72_1n⟩, eσ72_1⟩⟩)⟩ | exact ⟨σ2, hT2, Or.inr (Or.inr ⟨by rw [← eσ2_0]; exact ⟨⟨by omega, by omega⟩, by omega⟩, by rw [← eσ2_0]; exact (hye (by assumption)).1, (by rw [eσ113_0, (hn20 (by assumption)).1, (hn20 (by assumption)).2.1]), σ106, (by rw [← eσ2_0]; exact (hye (by assumption)).2), ⟨⟨eσ113_1r, eσ113_1s, eσ113_1n⟩, eσ113_1⟩⟩)⟩ | exact ⟨σ2, hT2, Or.inr (Or.inr ⟨by rw [← eσ2_0]; exact ⟨⟨by omega, by omega⟩, by omega⟩, by rw [← eσ2_0]; exact (hye (by assumption)).1, (by rw [eσ143_0, (hn20 (by assumption)).1, (hn20 (by assumption)).2.1]), σ136, (by rw [← eσ2_0]; exact (hye (by assumption)).2), ⟨⟨eσ143_1r, eσ143_1s, eσ143_1n⟩, eσ143_1⟩⟩)⟩)
              · (first | exact hb12 | exact h12 | exact eσ35_1 | exact eσ65_1 | exact eσ106_1 | exact eσ136_1)
          · refine ⟨?_, ?_⟩
            · omega
            refine ⟨?_, ?_⟩
            · (first | omega | (have z := hn20 (by assumption); omega))
            refine ⟨?_, ?_⟩
            · (first | omega | (have z := hn20 (by assumption); omega))
            refine ⟨?_, ?_⟩
            · (first | omega | exact ⟨by omega, by omega⟩ | assumption)
            rintro y73 σ72 ⟨y73f, y73fq⟩ gσ72 ⟨eσ72_0, ⟨⟨eσ72_1r, eσ72_1s, eσ72_1n⟩, eσ72_1⟩⟩
            have hb12 : bd_0_20 σ72 12 250 := bd_0_20_eq eσ65_1 (funext fun i => by rw [eσ72_1]; show (if at2 12 i 26 _ then _ else if at2 12 i 0 20 then _ else _) = _; rw [if_neg (fun z => absurd z.1 (by decide)), if_neg (fun z => absurd z.1 (by decide))])
            refine RVI_mk ?_ ?_
            · (first | exact ⟨by omega, by omega⟩ | assumption)
            · refine ⟨?_, ?_⟩
              · (first | exact hbad (fun z => by unfold gdX at z; omega) | exact ⟨σ2, hT2, Or.inr (Or.inl ⟨by rw [← eσ2_0]; exact ⟨⟨by omega, by omega⟩, by omega⟩, by rw [← eσ2_0]; exact (hno (by assumption)).1, rfl, (hno (by assumption)).2⟩)⟩ | exact ⟨σ2, hT2, Or.inr (Or.inr ⟨by rw [← eσ2_0]; exact ⟨⟨by omega, by omega⟩, by omega⟩, by rw [← eσ2_0]; exact (hye (by assumption)).1, (by rw [eσ42_0, (hn20 (by assumption)).1, (hn20 (by assumption)).2.1]), σ35, (by rw [← eσ2_0]; exact (hye (by assumption)).2), ⟨⟨eσ42_1r, eσ42_1s, eσ42_1n⟩, eσ42_1⟩⟩)⟩ | exact ⟨σ2, hT2, Or.inr (Or.inr ⟨by rw [← eσ2_0]; exact ⟨⟨by omega, by omega⟩, by omega⟩, by rw [← eσ2_0]; exact (hye (by assumption)).1, (by rw [eσ72_0, (hn20 (by assumption)).1, (hn20 (by assumption)).2.1]), σ65, (by rw [← eσ2_0]; exact (hye (by assumption)).2), ⟨⟨eσ72_1r, eσ72_1s, eσ72_1n⟩, eσ72_1⟩⟩)⟩ | exact ⟨σ2, hT2, Or.inr (Or.inr ⟨by rw [← eσ2_0]; exact ⟨⟨by omega, by omega⟩, by omega⟩, by rw [← eσ2_0]; exact (hye (by assumption)).1, (by rw [eσ113_0, (hn20 (by assumption)).1, (hn20 (by assumption)).2.1]), σ106, (by rw [← eσ2_0]; exact (hye (by assumption)).2), ⟨⟨eσ113_1r, eσ113_1s, eσ113_1n⟩, eσ113_1⟩⟩)⟩ | exact ⟨σ2, hT2, Or.inr (Or.inr ⟨by rw [← eσ2_0]; exact ⟨⟨by omega, by omega⟩, by omega⟩, by rw [← eσ2_0]; exact (hye (by assumption)).1, (by rw [eσ143_0, (hn20 (by assumption)).1, (hn20 (by assumption)).2.1]), σ136, (by rw [← eσ2_0]; exact (hye (by assumption)).2), ⟨⟨eσ143_1r, eσ143_1s, eσ143_1n⟩, eσ143_1⟩⟩)⟩)
              · (first | exact hb12 | exact h12 | exact eσ35_1 | exact eσ65_1 | exact eσ106_1 | exact eσ136_1)
        · refine RVI_mk ?_ ?_
          · (first | exact ⟨by omega, by omega⟩ | assumption)
          · refine ⟨?_, ?_⟩
            · (first | exact hbad (fun z => by unfold gdX at z; omega) | exact ⟨σ2, hT2, Or.inr (Or.inl ⟨by rw [← eσ2_0]; exact ⟨⟨by omega, by omega⟩, by omega⟩, by rw [← eσ2_0]; exact (hno (by assumption)).1, rfl, (hno (by assumption)).2⟩)⟩ | exact ⟨σ2, hT2, Or.inr (Or.inr ⟨by rw [← eσ2_0]; exact ⟨⟨by omega, by omega⟩, by omega⟩, by rw [← eσ2_0]; exact (hye (by assumption)).1, (by rw [eσ42_0, (hn20 (by assumption)).1, (hn20 (by assumption)).2.1]), σ35, (by rw [← eσ2_0]; exact (hye (by assumption)).2), ⟨⟨eσ42_1r, eσ42_1s, eσ42_1n⟩, eσ42_1⟩⟩)⟩ | exact ⟨σ2, hT2, Or.inr (Or.inr ⟨by rw [← eσ2_0]; exact ⟨⟨by omega, by omega⟩, by omega⟩, by rw [← eσ2_0]; exact (hye (by assumption)).1, (by rw [eσ72_0, (hn20 (by assumption)).1, (hn20 (by assumption)).2.1]), σ65, (by rw [← eσ2_0]; exact (hye (by assumption)).2), ⟨⟨eσ72_1r, eσ72_1s, eσ72_1n⟩, eσ72_1⟩⟩)⟩ | exact ⟨σ2, hT2, Or.inr (Or.inr ⟨by rw [← eσ2_0]; exact ⟨⟨by omega, by omega⟩, by omega⟩, by rw [← eσ2_0]; exact (hye (by assumption)).1, (by rw [eσ113_0, (hn20 (by assumption)).1, (hn20 (by assumption)).2.1]), σ106, (by rw [← eσ2_0]; exact (hye (by assumption)).2), ⟨⟨eσ113_1r, eσ113_1s, eσ113_1n⟩, eσ113_1⟩⟩)⟩ | exact ⟨σ2, hT2, Or.inr (Or.inr ⟨by rw [← eσ2_0]; exact ⟨⟨by omega, by omega⟩, by omega⟩, by rw [← eσ2_0]; exact (hye (by assumption)).1, (by rw [eσ143_0, (hn20 (by assumption)).1, (hn20 (by assumption)).2.1]), σ136, (by rw [← eσ2_0]; exact (hye (by assumption)).2), ⟨⟨eσ143_1r, eσ143_1s, eσ143_1n⟩, eσ143_1⟩⟩)⟩)
            · (first | exact hb12 | exact h12 | exact eσ35_1 | exact eσ65_1 | exact eσ106_1 | exact eσ136_1)
  · refine ⟨?_, ?_⟩
    · omega
    refine ⟨?_, ?_⟩
    · (first | omega | exact ⟨by omega, by omega⟩ | assumption)
    refine ⟨?_, ?_⟩
    · (first | omega | exact ⟨by omega, by omega⟩ | assumption)
    refine ⟨?_, ?_⟩
    · (first | omega | exact ⟨by omega, by omega⟩ | assumption)
    refine ⟨fun c14 => ?_, fun c15 => ?_⟩
    · refine ⟨fun c16 => ?_, fun c17 => ?_⟩
      · refine RVI_mk ?_ ?_
        · (first | exact ⟨by omega, by omega⟩ | assumption)
        · refine ⟨?_, ?_⟩
          · (first | exact hbad (fun z => by unfold gdX at z; omega) | exact ⟨σ2, hT2, Or.inr (Or.inl ⟨by rw [← eσ2_0]; exact ⟨⟨by omega, by omega⟩, by omega⟩, by rw [← eσ2_0]; exact (hno (by assumption)).1, rfl, (hno (by assumption)).2⟩)⟩ | exact ⟨σ2, hT2, Or.inr (Or.inr ⟨by rw [← eσ2_0]; exact ⟨⟨by omega, by omega⟩, by omega⟩, by rw [← eσ2_0]; exact (hye (by assumption)).1, (by rw [eσ42_0, (hn20 (by assumption)).1, (hn20 (by assumption)).2.1]), σ35, (by rw [← eσ2_0]; exact (hye (by assumption)).2), ⟨⟨eσ42_1r, eσ42_1s, eσ42_1n⟩, eσ42_1⟩⟩)⟩ | exact ⟨σ2, hT2, Or.inr (Or.inr ⟨by rw [← eσ2_0]; exact ⟨⟨by omega, by omega⟩, by omega⟩, by rw [← eσ2_0]; exact (hye (by assumption)).1, (by rw [eσ72_0, (hn20 (by assumption)).1, (hn20 (by assumption)).2.1]), σ65, (by rw [← eσ2_0]; exact (hye (by assumption)).2), ⟨⟨eσ72_1r, eσ72_1s, eσ72_1n⟩, eσ72_1⟩⟩)⟩ | exact ⟨σ2, hT2, Or.inr (Or.inr ⟨by rw [← eσ2_0]; exact ⟨⟨by omega, by omega⟩, by omega⟩, by rw [← eσ2_0]; exact (hye (by assumption)).1, (by rw [eσ113_0, (hn20 (by assumption)).1, (hn20 (by assumption)).2.1]), σ106, (by rw [← eσ2_0]; exact (hye (by assumption)).2), ⟨⟨eσ113_1r, eσ113_1s, eσ113_1n⟩, eσ113_1⟩⟩)⟩ | exact ⟨σ2, hT2, Or.inr (Or.inr ⟨by rw [← eσ2_0]; exact ⟨⟨by omega, by omega⟩, by omega⟩, by rw [← eσ2_0]; exact (hye (by assumption)).1, (by rw [eσ143_0, (hn20 (by assumption)).1, (hn20 (by assumption)).2.1]), σ136, (by rw [← eσ2_0]; exact (hye (by assumption)).2), ⟨⟨eσ143_1r, eσ143_1s, eσ143_1n⟩, eσ143_1⟩⟩)⟩)
          · (first | exact hb12 | exact h12 | exact eσ35_1 | exact eσ65_1 | exact eσ106_1 | exact eσ136_1)
      · refine ⟨?_, ?_⟩
        · (first | omega | exact ⟨by omega, by omega⟩ | assumption)
        refine ⟨?_, ?_⟩
        · (first | omega | exact ⟨by omega, by omega⟩ | assumption)
        rintro ⟨f18, f18q⟩
        refine ⟨fun c19 => ?_, fun c20 => ?_⟩
        · refine ⟨?_, ?_⟩
          · omega
          refine ⟨?_, ?_⟩
          · (first | omega | (have z := hn20 (by assumption); omega))
          refine ⟨?_, ?_⟩
          · (first | omega | exact ⟨by omega, by omega⟩ | assumption)
          refine ⟨?_, ?_⟩
          · (first | omega | exact ⟨by omega, by omega⟩ | assumption)
          refine ⟨?_, ?_⟩
          · (first | omega | exact ⟨by omega, by omega⟩ | assumption)
          refine ⟨?_, ?_⟩
          · (first | omega | exact ⟨by omega, by omega⟩ | assumption)
          refine ⟨?_, ?_⟩
          · (first | omega | exact ⟨by omega, by omega⟩ | assumption)
          refine ⟨?_, ?_⟩
          · (first | omega | exact ⟨by omega, by omega⟩ | assumption)
          refine ⟨?_, ?_⟩
          · (first | omega | exact ⟨by omega, by omega⟩ | assumption)
          refine ⟨?_, ?_⟩
          · (first | omega | exact ⟨by omega, by omega⟩ | assumption)
          refine ⟨?_, ?_⟩
          · (exact (fun z => h17 z ⟨by omega, by omega⟩))
          refine ⟨?_, ?_⟩
          · (exact hAN)
          refine ⟨?_, ?_⟩
          · (exact hAX)
          refine ⟨?_, ?_⟩
          · (exact h12)
          refine ⟨?_, ?_⟩
          · (exact hTC)
          refine ⟨?_, ?_⟩
          · (exact hTU)
          refine ⟨?_, ?_⟩
          · (first | omega | exact ⟨by omega, by omega⟩ | assumption)
          refine ⟨?_, ?_⟩
          · (exact h21)
          refine ⟨?_, ?_⟩
          · (exact h20)
          refine ⟨?_, ?_⟩
          · (first | omega | exact ⟨by omega, by omega⟩ | assumption)
          rintro y107 σ106 ⟨y107f, y107fq⟩ gσ106 ⟨eσ106_0, eσ106_1⟩
          have hno : y107 = 0 → ¬ myX σ2 x1 y3 ∧ KXt 10 σ2 σ106 := fun z => eσ106_0.elim (fun w => ⟨w.1, w.2.2⟩) (fun w => absurd (w.2.1.symm.trans z) (by decide))
          have hye : y107 ≠ 0 → myX σ2 x1 y3 ∧ TXX σ2 σ106 x1 (σ2.I 1) 0 y3 (lTX σ2 x1 (σ2.I 1) 0 y3) := fun z => eσ106_0.elim (fun w => absurd w.2.1 z) (fun w => ⟨w.1, w.2.2⟩)
          have hn20 : y107 ≠ 0 → σ106.I 0 20 = σ2.I 0 20 ∧ σ106.I 0 31 = σ2.I 0 31 ∧ σ2.I 0 20 < 6000 := fun z => ⟨(hye z).2.1.2 _ _ (by unfold wsTX; omega), (hye z).2.1.2 _ _ (by unfold wsTX; omega), (hye z).1.2.1⟩
          refine ⟨fun c21 => ?_, fun c22 => ?_⟩
          · refine RVI_mk ?_ ?_
            · (first | exact ⟨by omega, by omega⟩ | assumption)
            · refine ⟨?_, ?_⟩
              · (first | exact hbad (fun z => by unfold gdX at z; omega) | exact ⟨σ2, hT2, Or.inr (Or.inl ⟨by rw [← eσ2_0]; exact ⟨⟨by omega, by omega⟩, by omega⟩, by rw [← eσ2_0]; exact (hno (by assumption)).1, rfl, (hno (by assumption)).2⟩)⟩ | exact ⟨σ2, hT2, Or.inr (Or.inr ⟨by rw [← eσ2_0]; exact ⟨⟨by omega, by omega⟩, by omega⟩, by rw [← eσ2_0]; exact (hye (by assumption)).1, (by rw [eσ42_0, (hn20 (by assumption)).1, (hn20 (by assumption)).2.1]), σ35, (by rw [← eσ2_0]; exact (hye (by assumption)).2), ⟨⟨eσ42_1r, eσ42_1s, eσ42_1n⟩, eσ42_1⟩⟩)⟩ | exact ⟨σ2, hT2, Or.inr (Or.inr ⟨by rw [← eσ2_0]; exact ⟨⟨by omega, by omega⟩, by omega⟩, by rw [← eσ2_0]; exact (hye (by assumption)).1, (by rw [eσ72_0, (hn20 (by assumption)).1, (hn20 (by assumption)).2.1]), σ65, (by rw [← eσ2_0]; exact (hye (by assumption)).2), ⟨⟨eσ72_1r, eσ72_1s, eσ72_1n⟩, eσ72_1⟩⟩)⟩ | exact ⟨σ2, hT2, Or.inr (Or.inr ⟨by rw [← eσ2_0]; exact ⟨⟨by omega, by omega⟩, by omega⟩, by rw [← eσ2_0]; exact (hye (by assumption)).1, (by rw [eσ113_0, (hn20 (by assumption)).1, (hn20 (by assumption)).2.1]), σ106, (by rw [← eσ2_0]; exact (hye (by assumption)).2), ⟨⟨eσ113_1r, eσ113_1s, eσ113_1n⟩, eσ113_1⟩⟩)⟩ | exact ⟨σ2, hT2, Or.inr (Or.inr ⟨by rw [← eσ2_0]; exact ⟨⟨by omega, by omega⟩, by omega⟩, by rw [← eσ2_0]; exact (hye (by assumption)).1, (by rw [eσ143_0, (hn20 (by assumption)).1, (hn20 (by assumption)).2.1]), σ136, (by rw [← eσ2_0]; exact (hye (by assumption)).2), ⟨⟨eσ143_1r, eσ143_1s, eσ143_1n⟩, eσ143_1⟩⟩)⟩)
              · (first | exact hb12 | exact h12 | exact eσ35_1 | exact eσ65_1 | exact eσ106_1 | exact eσ136_1)
          · refine ⟨?_, ?_⟩
            · omega
            refine ⟨?_, ?_⟩
            · (first | omega | (have z := hn20 (by assumption); omega))
            refine ⟨?_, ?_⟩
            · (first | omega | (have z := hn20 (by assumption); omega))
            refine ⟨?_, ?_⟩
            · (first | omega | exact ⟨by omega, by omega⟩ | assumption)
            rintro y114 σ113 ⟨y114f, y114fq⟩ gσ113 ⟨eσ113_0, ⟨⟨eσ113_1r, eσ113_1s, eσ113_1n⟩, eσ113_1⟩⟩
            have hb12 : bd_0_20 σ113 12 250 := bd_0_20_eq eσ106_1 (funext fun i => by rw [eσ113_1]; show (if at2 12 i 26 _ then _ else if at2 12 i 0 20 then _ else _) = _; rw [if_neg (fun z => absurd z.1 (by decide)), if_neg (fun z => absurd z.1 (by decide))])
            refine RVI_mk ?_ ?_
            · (first | exact ⟨by omega, by omega⟩ | assumption)
            · refine ⟨?_, ?_⟩
              · (first | exact hbad (fun z => by unfold gdX at z; omega) | exact ⟨σ2, hT2, Or.inr (Or.inl ⟨by rw [← eσ2_0]; exact ⟨⟨by omega, by omega⟩, by omega⟩, by rw [← eσ2_0]; exact (hno (by assumption)).1, rfl, (hno (by assumption)).2⟩)⟩ | exact ⟨σ2, hT2, Or.inr (Or.inr ⟨by rw [← eσ2_0]; exact ⟨⟨by omega, by omega⟩, by omega⟩, by rw [← eσ2_0]; exact (hye (by assumption)).1, (by rw [eσ42_0, (hn20 (by assumption)).1, (hn20 (by assumption)).2.1]), σ35, (by rw [← eσ2_0]; exact (hye (by assumption)).2), ⟨⟨eσ42_1r, eσ42_1s, eσ42_1n⟩, eσ42_1⟩⟩)⟩ | exact ⟨σ2, hT2, Or.inr (Or.inr ⟨by rw [← eσ2_0]; exact ⟨⟨by omega, by omega⟩, by omega⟩, by rw [← eσ2_0]; exact (hye (by assumption)).1, (by rw [eσ72_0, (hn20 (by assumption)).1, (hn20 (by assumption)).2.1]), σ65, (by rw [← eσ2_0]; exact (hye (by assumption)).2), ⟨⟨eσ72_1r, eσ72_1s, eσ72_1n⟩, eσ72_1⟩⟩)⟩ | exact ⟨σ2, hT2, Or.inr (Or.inr ⟨by rw [← eσ2_0]; exact ⟨⟨by omega, by omega⟩, by omega⟩, by rw [← eσ2_0]; exact (hye (by assumption)).1, (by rw [eσ113_0, (hn20 (by assumption)).1, (hn20 (by assumption)).2.1]), σ106, (by rw [← eσ2_0]; exact (hye (by assumption)).2), ⟨⟨eσ113_1r, eσ113_1s, eσ113_1n⟩, eσ113_1⟩⟩)⟩ | exact ⟨σ2, hT2, Or.inr (Or.inr ⟨by rw [← eσ2_0]; exact ⟨⟨by omega, by omega⟩, by omega⟩, by rw [← eσ2_0]; exact (hye (by assumption)).1, (by rw [eσ143_0, (hn20 (by assumption)).1, (hn20 (by assumption)).2.1]), σ136, (by rw [← eσ2_0]; exact (hye (by assumption)).2), ⟨⟨eσ143_1r, eσ143_1s, eσ143_1n⟩, eσ143_1⟩⟩)⟩)
              · (first | exact hb12 | exact h12 | exact eσ35_1 | exact eσ65_1 | exact eσ106_1 | exact eσ136_1)
        · refine ⟨fun c23 => ?_, fun c24 => ?_⟩
          · refine ⟨?_, ?_⟩
            · omega
            refine ⟨?_, ?_⟩
            · (first | omega | (have z := hn20 (by assumption); omega))
            refine ⟨?_, ?_⟩
            · (first | omega | exact ⟨by omega, by omega⟩ | assumption)
            refine ⟨?_, ?_⟩
            · (first | omega | exact ⟨by omega, by omega⟩ | assumption)
            refine ⟨?_, ?_⟩
            · (first | omega | exact ⟨by omega, by omega⟩ | assumption)
            refine ⟨?_, ?_⟩
            · (first | omega | exact ⟨by omega, by omega⟩ | assumption)
            refine ⟨?_, ?_⟩
            · (first | omega | exact ⟨by omega, by omega⟩ | assumption)
            refine ⟨?_, ?_⟩
            · (first | omega | exact ⟨by omega, by omega⟩ | assumption)
            refine ⟨?_, ?_⟩
            · (first | omega | exact ⟨by omega, by omega⟩ | assumption)
            refine ⟨?_, ?_⟩
            · (first | omega | exact ⟨by omega, by omega⟩ | assumption)
            refine ⟨?_, ?_⟩
            · (exact (fun z => h17 z ⟨by omega, by omega⟩))
            refine ⟨?_, ?_⟩
            · (exact hAN)
            refine ⟨?_, ?_⟩
            · (exact hAX)
            refine ⟨?_, ?_⟩
            · (exact h12)
            refine ⟨?_, ?_⟩
            · (exact hTC)
            refine ⟨?_, ?_⟩
            · (exact hTU)
            refine ⟨?_, ?_⟩
            · (first | omega | exact ⟨by omega, by omega⟩ | assumption)
            refine ⟨?_, ?_⟩
            · (exact h21)
            refine ⟨?_, ?_⟩
            · (exact h20)
            refine ⟨?_, ?_⟩
            · (first | omega | exact ⟨by omega, by omega⟩ | assumption)
            rintro y137 σ136 ⟨y137f, y137fq⟩ gσ136 ⟨eσ136_0, eσ136_1⟩
            have hno : y137 = 0 → ¬ myX σ2 x1 y3 ∧ KXt 10 σ2 σ136 := fun z => eσ136_0.elim (fun w => ⟨w.1, w.2.2⟩) (fun w => absurd (w.2.1.symm.trans z) (by decide))
            have hye : y137 ≠ 0 → myX σ2 x1 y3 ∧ TXX σ2 σ136 x1 (σ2.I 1) 0 y3 (lTX σ2 x1 (σ2.I 1) 0 y3) := fun z => eσ136_0.elim (fun w => absurd w.2.1 z) (fun w => ⟨w.1, w.2.2⟩)
            have hn20 : y137 ≠ 0 → σ136.I 0 20 = σ2.I 0 20 ∧ σ136.I 0 31 = σ2.I 0 31 ∧ σ2.I 0 20 < 6000 := fun z => ⟨(hye z).2.1.2 _ _ (by unfold wsTX; omega), (hye z).2.1.2 _ _ (by unfold wsTX; omega), (hye z).1.2.1⟩
            refine ⟨fun c25 => ?_, fun c26 => ?_⟩
            · refine RVI_mk ?_ ?_
              · (first | exact ⟨by omega, by omega⟩ | assumption)
              · refine ⟨?_, ?_⟩
                · (first | exact hbad (fun z => by unfold gdX at z; omega) | exact ⟨σ2, hT2, Or.inr (Or.inl ⟨by rw [← eσ2_0]; exact ⟨⟨by omega, by omega⟩, by omega⟩, by rw [← eσ2_0]; exact (hno (by assumption)).1, rfl, (hno (by assumption)).2⟩)⟩ | exact ⟨σ2, hT2, Or.inr (Or.inr ⟨by rw [← eσ2_0]; exact ⟨⟨by omega, by omega⟩, by omega⟩, by rw [← eσ2_0]; exact (hye (by assumption)).1, (by rw [eσ42_0, (hn20 (by assumption)).1, (hn20 (by assumption)).2.1]), σ35, (by rw [← eσ2_0]; exact (hye (by assumption)).2), ⟨⟨eσ42_1r, eσ42_1s, eσ42_1n⟩, eσ42_1⟩⟩)⟩ | exact ⟨σ2, hT2, Or.inr (Or.inr ⟨by rw [← eσ2_0]; exact ⟨⟨by omega, by omega⟩, by omega⟩, by rw [← eσ2_0]; exact (hye (by assumption)).1, (by rw [eσ72_0, (hn20 (by assumption)).1, (hn20 (by assumption)).2.1]), σ65, (by rw [← eσ2_0]; exact (hye (by assumption)).2), ⟨⟨eσ72_1r, eσ72_1s, eσ72_1n⟩, eσ72_1⟩⟩)⟩ | exact ⟨σ2, hT2, Or.inr (Or.inr ⟨by rw [← eσ2_0]; exact ⟨⟨by omega, by omega⟩, by omega⟩, by rw [← eσ2_0]; exact (hye (by assumption)).1, (by rw [eσ113_0, (hn20 (by assumption)).1, (hn20 (by assumption)).2.1]), σ106, (by rw [← eσ2_0]; exact (hye (by assumption)).2), ⟨⟨eσ113_1r, eσ113_1s, eσ113_1n⟩, eσ113_1⟩⟩)⟩ | exact ⟨σ2, hT2, Or.inr (Or.inr ⟨by rw [← eσ2_0]; exact ⟨⟨by omega, by omega⟩, by omega⟩, by rw [← eσ2_0]; exact (hye (by assumption)).1, (by rw [eσ143_0, (hn20 (by assumption)).1, (hn20 (by assumption)).2.1]), σ136, (by rw [← eσ2_0]; exact (hye (by assumption)).2), ⟨⟨eσ143_1r, eσ143_1s, eσ143_1n⟩, eσ143_1⟩⟩)⟩)
                · (first | exact hb12 | exact h12 | exact eσ35_1 | exact eσ65_1 | exact eσ106_1 | exact eσ136_1)
            · refine ⟨?_, ?_⟩
              · omega
              refine ⟨?_, ?_⟩
              · (first | omega | (have z := hn20 (by assumption); omega))
              refine ⟨?_, ?_⟩
              · (first | omega | (have z := hn20 (by assumption); omega))
              refine ⟨?_, ?_⟩
              · (first | omega | exact ⟨by omega, by omega⟩ | assumption)
              rintro y144 σ143 ⟨y144f, y144fq⟩ gσ143 ⟨eσ143_0, ⟨⟨eσ143_1r, eσ143_1s, eσ143_1n⟩, eσ143_1⟩⟩
              have hb12 : bd_0_20 σ143 12 250 := bd_0_20_eq eσ136_1 (funext fun i => by rw [eσ143_1]; show (if at2 12 i 26 _ then _ else if at2 12 i 0 20 then _ else _) = _; rw [if_neg (fun z => absurd z.1 (by decide)), if_neg (fun z => absurd z.1 (by decide))])
              refine RVI_mk ?_ ?_
              · (first | exact ⟨by omega, by omega⟩ | assumption)
              · refine ⟨?_, ?_⟩
                · (first | exact hbad (fun z => by unfold gdX at z; omega) | exact ⟨σ2, hT2, Or.inr (Or.inl ⟨by rw [← eσ2_0]; exact ⟨⟨by omega, by omega⟩, by omega⟩, by rw [← eσ2_0]; exact (hno (by assumption)).1, rfl, (hno (by assumption)).2⟩)⟩ | exact ⟨σ2, hT2, Or.inr (Or.inr ⟨by rw [← eσ2_0]; exact ⟨⟨by omega, by omega⟩, by omega⟩, by rw [← eσ2_0]; exact (hye (by assumption)).1, (by rw [eσ42_0, (hn20 (by assumption)).1, (hn20 (by assumption)).2.1]), σ35, (by rw [← eσ2_0]; exact (hye (by assumption)).2), ⟨⟨eσ42_1r, eσ42_1s, eσ42_1n⟩, eσ42_1⟩⟩)⟩ | exact ⟨σ2, hT2, Or.inr (Or.inr ⟨by rw [← eσ2_0]; exact ⟨⟨by omega, by omega⟩, by omega⟩, by rw [← eσ2_0]; exact (hye (by assumption)).1, (by rw [eσ72_0, (hn20 (by assumption)).1, (hn20 (by assumption)).2.1]), σ65, (by rw [← eσ2_0]; exact (hye (by assumption)).2), ⟨⟨eσ72_1r, eσ72_1s, eσ72_1n⟩, eσ72_1⟩⟩)⟩ | exact ⟨σ2, hT2, Or.inr (Or.inr ⟨by rw [← eσ2_0]; exact ⟨⟨by omega, by omega⟩, by omega⟩, by rw [← eσ2_0]; exact (hye (by assumption)).1, (by rw [eσ113_0, (hn20 (by assumption)).1, (hn20 (by assumption)).2.1]), σ106, (by rw [← eσ2_0]; exact (hye (by assumption)).2), ⟨⟨eσ113_1r, eσ113_1s, eσ113_1n⟩, eσ113_1⟩⟩)⟩ | exact ⟨σ2, hT2, Or.inr (Or.inr ⟨by rw [← eσ2_0]; exact ⟨⟨by omega, by omega⟩, by omega⟩, by rw [← eσ2_0]; exact (hye (by assumption)).1, (by rw [eσ143_0, (hn20 (by assumption)).1, (hn20 (by assumption)).2.1]), σ136, (by rw [← eσ2_0]; exact (hye (by assumption)).2), ⟨⟨eσ143_1r, eσ143_1s, eσ143_1n⟩, eσ143_1⟩⟩)⟩)
                · (first | exact hb12 | exact h12 | exact eσ35_1 | exact eσ65_1 | exact eσ106_1 | exact eσ136_1)
          · refine RVI_mk ?_ ?_
            · (first | exact ⟨by omega, by omega⟩ | assumption)
            · refine ⟨?_, ?_⟩
              · (first | exact hbad (fun z => by unfold gdX at z; omega) | exact ⟨σ2, hT2, Or.inr (Or.inl ⟨by rw [← eσ2_0]; exact ⟨⟨by omega, by omega⟩, by omega⟩, by rw [← eσ2_0]; exact (hno (by assumption)).1, rfl, (hno (by assumption)).2⟩)⟩ | exact ⟨σ2, hT2, Or.inr (Or.inr ⟨by rw [← eσ2_0]; exact ⟨⟨by omega, by omega⟩, by omega⟩, by rw [← eσ2_0]; exact (hye (by assumption)).1, (by rw [eσ42_0, (hn20 (by assumption)).1, (hn20 (by assumption)).2.1]), σ35, (by rw [← eσ2_0]; exact (hye (by assumption)).2), ⟨⟨eσ42_1r, eσ42_1s, eσ42_1n⟩, eσ42_1⟩⟩)⟩ | exact ⟨σ2, hT2, Or.inr (Or.inr ⟨by rw [← eσ2_0]; exact ⟨⟨by omega, by omega⟩, by omega⟩, by rw [← eσ2_0]; exact (hye (by assumption)).1, (by rw [eσ72_0, (hn20 (by assumption)).1, (hn20 (by assumption)).2.1]), σ65, (by rw [← eσ2_0]; exact (hye (by assumption)).2), ⟨⟨eσ72_1r, eσ72_1s, eσ72_1n⟩, eσ72_1⟩⟩)⟩ | exact ⟨σ2, hT2, Or.inr (Or.inr ⟨by rw [← eσ2_0]; exact ⟨⟨by omega, by omega⟩, by omega⟩, by rw [← eσ2_0]; exact (hye (by assumption)).1, (by rw [eσ113_0, (hn20 (by assumption)).1, (hn20 (by assumption)).2.1]), σ106, (by rw [← eσ2_0]; exact (hye (by assumption)).2), ⟨⟨eσ113_1r, eσ113_1s, eσ113_1n⟩, eσ113_1⟩⟩)⟩ | exact ⟨σ2, hT2, Or.inr (Or.inr ⟨by rw [← eσ2_0]; exact ⟨⟨by omega, by omega⟩, by omega⟩, by rw [← eσ2_0]; exact (hye (by assumption)).1, (by rw [eσ143_0, (hn20 (by assumption)).1, (hn20 (by assumption)).2.1]), σ136, (by rw [← eσ2_0]; exact (hye (by assumption)).2), ⟨⟨eσ143_1r, eσ143_1s, eσ143_1n⟩, eσ143_1⟩⟩)⟩)
              · (first | exact hb12 | exact h12 | exact eσ35_1 | exact eσ65_1 | exact eσ106_1 | exact eσ136_1)
    · refine RVI_mk ?_ ?_
      · (first | exact ⟨by omega, by omega⟩ | assumption)
      · refine ⟨?_, ?_⟩
        · (first | exact hbad (fun z => by unfold gdX at z; omega) | exact ⟨σ2, hT2, Or.inr (Or.inl ⟨by rw [← eσ2_0]; exact ⟨⟨by omega, by omega⟩, by omega⟩, by rw [← eσ2_0]; exact (hno (by assumption)).1, rfl, (hno (by assumption)).2⟩)⟩ | exact ⟨σ2, hT2, Or.inr (Or.inr ⟨by rw [← eσ2_0]; exact ⟨⟨by omega, by omega⟩, by omega⟩, by rw [← eσ2_0]; exact (hye (by assumption)).1, (by rw [eσ42_0, (hn20 (by assumption)).1, (hn20 (by assumption)).2.1]), σ35, (by rw [← eσ2_0]; exact (hye (by assumption)).2), ⟨⟨eσ42_1r, eσ42_1s, eσ42_1n⟩, eσ42_1⟩⟩)⟩ | exact ⟨σ2, hT2, Or.inr (Or.inr ⟨by rw [← eσ2_0]; exact ⟨⟨by omega, by omega⟩, by omega⟩, by rw [← eσ2_0]; exact (hye (by assumption)).1, (by rw [eσ72_0, (hn20 (by assumption)).1, (hn20 (by assumption)).2.1]), σ65, (by rw [← eσ2_0]; exact (hye (by assumption)).2), ⟨⟨eσ72_1r, eσ72_1s, eσ72_1n⟩, eσ72_1⟩⟩)⟩ | exact ⟨σ2, hT2, Or.inr (Or.inr ⟨by rw [← eσ2_0]; exact ⟨⟨by omega, by omega⟩, by omega⟩, by rw [← eσ2_0]; exact (hye (by assumption)).1, (by rw [eσ113_0, (hn20 (by assumption)).1, (hn20 (by assumption)).2.1]), σ106, (by rw [← eσ2_0]; exact (hye (by assumption)).2), ⟨⟨eσ113_1r, eσ113_1s, eσ113_1n⟩, eσ113_1⟩⟩)⟩ | exact ⟨σ2, hT2, Or.inr (Or.inr ⟨by rw [← eσ2_0]; exact ⟨⟨by omega, by omega⟩, by omega⟩, by rw [← eσ2_0]; exact (hye (by assumption)).1, (by rw [eσ143_0, (hn20 (by assumption)).1, (hn20 (by assumption)).2.1]), σ136, (by rw [← eσ2_0]; exact (hye (by assumption)).2), ⟨⟨eσ143_1r, eσ143_1s, eσ143_1n⟩, eσ143_1⟩⟩)⟩)
        · (first | exact hb12 | exact h12 | exact eσ35_1 | exact eσ65_1 | exact eσ106_1 | exact eσ136_1)
