def excN : List String := ["java/lang/RuntimeException", "java/lang/Exception"]
theorem thrM_0 : (vx_at0 RX1 46 "java/util/NoSuchElementException" excN).filter goodWord = ([78, 365, 374, 379, 382, 384, 366, 367, 113, 114, 368, 373, 380, 397, 355, 398, 357, 399, 359, 369, 371, 361, 386, 387, 388, 389, 389, 390, 391, 392, 392, 393, 394, 366, 1162, 344, 352, 353, 354, 356, 358, 360, 364, 363, 362] : List Nat).filterMap (fun i => lw_tbl[i]?) := by decide +kernel
theorem thrG_0 : ∀ w ∈ Cond.classLink RX1 44 "java/util/NoSuchElementException" :: Cond.initialized "java/util/NoSuchElementException" :: vx_at0 RX1 46 "java/util/NoSuchElementException" excN, vx_ot w = true := by decide +kernel
theorem thrB_0 : ∀ w ∈ (vx_at0 RX1 46 "java/util/NoSuchElementException" excN).filter (fun w => !goodWord w), w ∈ [Cond.declares ⟨"java/lang/RuntimeException", "<init>", "()V"⟩, Cond.declares ⟨"java/lang/Exception", "<init>", "()V"⟩, Cond.declares ⟨"java/lang/Throwable", "<init>", "()V"⟩, Cond.castable "java/util/NoSuchElementException" "java/util/NoSuchElementException"] := by decide +kernel
theorem thrW_0 {G : vGC} {X : vCX} {own : String} {cc : ByteArray} {ret : Option FieldType} {fr mc ms : Nat} (O : vOk G X own cc ret fr mc ms) : ∀ w ∈ vx_at0 RX1 46 "java/util/NoSuchElementException" excN, w.before (xa X) (xs X) = true := by
  refine vx_hat (fun w hw => ?_) thrB_0 (vx_c (vDc O q346) (vx_c (vDc O q348) (vx_c (vDc O q350) (vx_c (vCS O q345) vx_n))))
  have hg := (List.mem_filter.mp hw).2
  rw [thrM_0] at hw
  obtain ⟨i, -, hi⟩ := List.mem_filterMap.mp hw
  exact O.ts _ (lw_g (List.mem_of_getElem? hi) hg)
theorem thrM_1 : (vx_at0 RX1 43 "java/lang/IllegalArgumentException" excN).filter goodWord = ([78, 365, 374, 379, 382, 384, 366, 367, 113, 114, 368, 373, 380, 397, 355, 398, 357, 399, 359, 369, 371, 361, 568, 569, 570, 389, 389, 390, 391, 392, 392, 393, 394, 366, 567, 559, 561, 377, 562, 563, 564, 565, 364, 363, 566] : List Nat).filterMap (fun i => lw_tbl[i]?) := by decide +kernel
theorem thrG_1 : ∀ w ∈ Cond.classLink RX1 41 "java/lang/IllegalArgumentException" :: Cond.initialized "java/lang/IllegalArgumentException" :: vx_at0 RX1 43 "java/lang/IllegalArgumentException" excN, vx_ot w = true := by decide +kernel
theorem thrB_1 : ∀ w ∈ (vx_at0 RX1 43 "java/lang/IllegalArgumentException" excN).filter (fun w => !goodWord w), w ∈ [Cond.declares ⟨"java/lang/RuntimeException", "<init>", "()V"⟩, Cond.declares ⟨"java/lang/Exception", "<init>", "()V"⟩, Cond.declares ⟨"java/lang/Throwable", "<init>", "()V"⟩, Cond.castable "java/lang/IllegalArgumentException" "java/lang/IllegalArgumentException"] := by decide +kernel
theorem thrW_1 {G : vGC} {X : vCX} {own : String} {cc : ByteArray} {ret : Option FieldType} {fr mc ms : Nat} (O : vOk G X own cc ret fr mc ms) : ∀ w ∈ vx_at0 RX1 43 "java/lang/IllegalArgumentException" excN, w.before (xa X) (xs X) = true := by
  refine vx_hat (fun w hw => ?_) thrB_1 (vx_c (vDc O q346) (vx_c (vDc O q348) (vx_c (vDc O q350) (vx_c (vCS O q560) vx_n))))
  have hg := (List.mem_filter.mp hw).2
  rw [thrM_1] at hw
  obtain ⟨i, -, hi⟩ := List.mem_filterMap.mp hw
  exact O.ts _ (lw_g (List.mem_of_getElem? hi) hg)
theorem thrM_2 : (vx_at0 RX1 49 "java/lang/IllegalStateException" excN).filter goodWord = ([78, 365, 374, 379, 382, 384, 366, 367, 113, 114, 368, 373, 380, 397, 355, 398, 357, 399, 359, 369, 371, 361, 1178, 1179, 1180, 389, 389, 390, 391, 392, 392, 393, 394, 366, 1177, 422, 424, 378, 425, 426, 427, 428, 364, 363, 429] : List Nat).filterMap (fun i => lw_tbl[i]?) := by decide +kernel
theorem thrG_2 : ∀ w ∈ Cond.classLink RX1 47 "java/lang/IllegalStateException" :: Cond.initialized "java/lang/IllegalStateException" :: vx_at0 RX1 49 "java/lang/IllegalStateException" excN, vx_ot w = true := by decide +kernel
theorem thrB_2 : ∀ w ∈ (vx_at0 RX1 49 "java/lang/IllegalStateException" excN).filter (fun w => !goodWord w), w ∈ [Cond.declares ⟨"java/lang/RuntimeException", "<init>", "()V"⟩, Cond.declares ⟨"java/lang/Exception", "<init>", "()V"⟩, Cond.declares ⟨"java/lang/Throwable", "<init>", "()V"⟩, Cond.castable "java/lang/IllegalStateException" "java/lang/IllegalStateException"] := by decide +kernel
theorem thrW_2 {G : vGC} {X : vCX} {own : String} {cc : ByteArray} {ret : Option FieldType} {fr mc ms : Nat} (O : vOk G X own cc ret fr mc ms) : ∀ w ∈ vx_at0 RX1 49 "java/lang/IllegalStateException" excN, w.before (xa X) (xs X) = true := by
  refine vx_hat (fun w hw => ?_) thrB_2 (vx_c (vDc O q346) (vx_c (vDc O q348) (vx_c (vDc O q350) (vx_c (vCS O q423) vx_n))))
  have hg := (List.mem_filter.mp hw).2
  rw [thrM_2] at hw
  obtain ⟨i, -, hi⟩ := List.mem_filterMap.mp hw
  exact O.ts _ (lw_g (List.mem_of_getElem? hi) hg)
