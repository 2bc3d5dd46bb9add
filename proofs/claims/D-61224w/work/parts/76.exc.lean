/-! The exceptions that the component makes (printed by gen/kons.py, second part) -/
set_option maxRecDepth 100000
theorem x_st : hXst := ⟨⟨by decide +kernel, by decide +kernel, by decide +kernel⟩, hLeafOf (by decide +kernel), hLeafOf (by decide +kernel)⟩
theorem xX1_13 : hXs "TemplateEngine" 13 15 "java/lang/IllegalArgumentException" ["java/lang/RuntimeException", "java/lang/Exception"] := ⟨by decide, by decide, by decide, by decide +kernel⟩
theorem xX1_67 : hXs "TemplateEngine" 67 69 "java/lang/IllegalStateException" ["java/lang/RuntimeException", "java/lang/Exception"] := ⟨by decide, by decide, by decide, by decide +kernel⟩
theorem xX1_70 : hXs "TemplateEngine" 70 72 "java/util/NoSuchElementException" ["java/lang/RuntimeException", "java/lang/Exception"] := ⟨by decide, by decide, by decide, by decide +kernel⟩
theorem xX1_73 : hXs "TemplateEngine" 73 75 "java/lang/IndexOutOfBoundsException" ["java/lang/RuntimeException", "java/lang/Exception"] := ⟨by decide, by decide, by decide, by decide +kernel⟩
theorem xX1_196 : hXs "TemplateEngine" 196 198 "java/lang/ArithmeticException" ["java/lang/RuntimeException", "java/lang/Exception"] := ⟨by decide, by decide, by decide, by decide +kernel⟩
theorem xX19_26 : hXs "TemplateEngine$Rendering" 26 28 "java/lang/IllegalStateException" ["java/lang/RuntimeException", "java/lang/Exception"] := ⟨by decide, by decide, by decide, by decide +kernel⟩
theorem xX19_39 : hXs "TemplateEngine$Rendering" 39 41 "java/util/NoSuchElementException" ["java/lang/RuntimeException", "java/lang/Exception"] := ⟨by decide, by decide, by decide, by decide +kernel⟩
theorem xX19_45 : hXs "TemplateEngine$Rendering" 45 47 "java/lang/ArithmeticException" ["java/lang/RuntimeException", "java/lang/Exception"] := ⟨by decide, by decide, by decide, by decide +kernel⟩
theorem xX2_25 : hXs "TemplateEngine$Output" 25 27 "java/lang/IllegalStateException" ["java/lang/RuntimeException", "java/lang/Exception"] := ⟨by decide, by decide, by decide, by decide +kernel⟩
