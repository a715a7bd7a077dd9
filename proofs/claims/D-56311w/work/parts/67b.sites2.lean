/-! the sites' names and descriptors -/
set_option maxRecDepth 100000
theorem pn_DoughLedger : plainName ("DoughLedger" ++ "$$Lambda") = true := by decide +kernel
theorem pn_Parser : plainName ("DoughLedger$Parser" ++ "$$Lambda") = true := by decide +kernel
theorem l_S1 : "(II)I" = l_s1.sam.toString := by decide +kernel
theorem l_D1 : "(II)I" = l_s1.implDesc.toString := by decide +kernel
theorem l_q1 : decode l_C1 2 = .ok (.invokestatic 17, 3) := by decide +kernel
theorem l_r1 : decode l_C1 (2 + 3) = .ok (.ireturn, 1) := by decide +kernel
theorem l_S2 : "(II)I" = l_s2.sam.toString := by decide +kernel
theorem l_D2 : "(II)I" = l_s2.implDesc.toString := by decide +kernel
theorem l_q2 : decode l_C2 2 = .ok (.invokestatic 17, 3) := by decide +kernel
theorem l_r2 : decode l_C2 (2 + 3) = .ok (.ireturn, 1) := by decide +kernel
theorem l_S3 : "(II)I" = l_s3.sam.toString := by decide +kernel
theorem l_D3 : "(II)I" = l_s3.implDesc.toString := by decide +kernel
theorem l_q3 : decode l_C3 2 = .ok (.invokestatic 17, 3) := by decide +kernel
theorem l_r3 : decode l_C3 (2 + 3) = .ok (.ireturn, 1) := by decide +kernel
theorem l_S4 : "(II)I" = l_s4.sam.toString := by decide +kernel
theorem l_D4 : "(II)I" = l_s4.implDesc.toString := by decide +kernel
theorem l_q4 : decode l_C4 2 = .ok (.invokestatic 17, 3) := by decide +kernel
theorem l_r4 : decode l_C4 (2 + 3) = .ok (.ireturn, 1) := by decide +kernel
theorem l_S5 : "(LDoughLedger$Bakery;)I" = l_s5.sam.toString := by decide +kernel
theorem l_D5 : "(IILDoughLedger$Bakery;)I" = l_s5.implDesc.toString := by decide +kernel
theorem l_q5 : decode l_C5 9 = .ok (.invokestatic 26, 3) := by decide +kernel
theorem l_r5 : decode l_C5 (9 + 3) = .ok (.ireturn, 1) := by decide +kernel
theorem l_S6 : "(LDoughLedger$Bakery;)I" = l_s6.sam.toString := by decide +kernel
theorem l_D6 : "(IILDoughLedger$Bakery;)I" = l_s6.implDesc.toString := by decide +kernel
theorem l_q6 : decode l_C6 9 = .ok (.invokestatic 26, 3) := by decide +kernel
theorem l_r6 : decode l_C6 (9 + 3) = .ok (.ireturn, 1) := by decide +kernel
theorem l_S7 : "(LDoughLedger$Bakery;)I" = l_s7.sam.toString := by decide +kernel
theorem l_D7 : "(ILDoughLedger$Bakery;)I" = l_s7.implDesc.toString := by decide +kernel
theorem l_q7 : decode l_C7 5 = .ok (.invokestatic 23, 3) := by decide +kernel
theorem l_r7 : decode l_C7 (5 + 3) = .ok (.ireturn, 1) := by decide +kernel
theorem l_S8 : "(LDoughLedger$Bakery;)I" = l_s8.sam.toString := by decide +kernel
theorem l_D8 : "(IILDoughLedger$Bakery;)I" = l_s8.implDesc.toString := by decide +kernel
theorem l_q8 : decode l_C8 9 = .ok (.invokestatic 26, 3) := by decide +kernel
theorem l_r8 : decode l_C8 (9 + 3) = .ok (.ireturn, 1) := by decide +kernel
theorem l_S9 : "(LDoughLedger$Bakery;)I" = l_s9.sam.toString := by decide +kernel
theorem l_D9 : "(ILDoughLedger$Bakery;)I" = l_s9.implDesc.toString := by decide +kernel
theorem l_q9 : decode l_C9 5 = .ok (.invokestatic 23, 3) := by decide +kernel
theorem l_r9 : decode l_C9 (5 + 3) = .ok (.ireturn, 1) := by decide +kernel
theorem l_S10 : "(LDoughLedger$Bakery;)I" = l_s10.sam.toString := by decide +kernel
theorem l_D10 : "(ILDoughLedger$Bakery;)I" = l_s10.implDesc.toString := by decide +kernel
theorem l_q10 : decode l_C10 5 = .ok (.invokestatic 23, 3) := by decide +kernel
theorem l_r10 : decode l_C10 (5 + 3) = .ok (.ireturn, 1) := by decide +kernel
theorem l_S11 : "(LDoughLedger$Bakery;)I" = l_s11.sam.toString := by decide +kernel
theorem l_D11 : "(CLDoughLedger$Bakery;)I" = l_s11.implDesc.toString := by decide +kernel
theorem l_q11 : decode l_C11 5 = .ok (.invokestatic 23, 3) := by decide +kernel
theorem l_r11 : decode l_C11 (5 + 3) = .ok (.ireturn, 1) := by decide +kernel
theorem l_S12 : "(LDoughLedger$Bakery;)I" = l_s12.sam.toString := by decide +kernel
theorem l_D12 : "(IILDoughLedger$Bakery;)I" = l_s12.implDesc.toString := by decide +kernel
theorem l_q12 : decode l_C12 9 = .ok (.invokestatic 26, 3) := by decide +kernel
theorem l_r12 : decode l_C12 (9 + 3) = .ok (.ireturn, 1) := by decide +kernel
theorem l_S13 : "(LDoughLedger$Bakery;)I" = l_s13.sam.toString := by decide +kernel
theorem l_D13 : "(ILDoughLedger$Bakery;)I" = l_s13.implDesc.toString := by decide +kernel
theorem l_q13 : decode l_C13 5 = .ok (.invokestatic 23, 3) := by decide +kernel
theorem l_r13 : decode l_C13 (5 + 3) = .ok (.ireturn, 1) := by decide +kernel
theorem l_S14 : "(LDoughLedger$Bakery;)I" = l_s14.sam.toString := by decide +kernel
theorem l_D14 : "(ILDoughLedger$Bakery;)I" = l_s14.implDesc.toString := by decide +kernel
theorem l_q14 : decode l_C14 5 = .ok (.invokestatic 23, 3) := by decide +kernel
theorem l_r14 : decode l_C14 (5 + 3) = .ok (.ireturn, 1) := by decide +kernel
theorem l_S15 : "(LDoughLedger$Bakery;)I" = l_s15.sam.toString := by decide +kernel
theorem l_D15 : "(ILDoughLedger$Bakery;)I" = l_s15.implDesc.toString := by decide +kernel
theorem l_q15 : decode l_C15 5 = .ok (.invokestatic 23, 3) := by decide +kernel
theorem l_r15 : decode l_C15 (5 + 3) = .ok (.ireturn, 1) := by decide +kernel
theorem l_S16 : "(LDoughLedger$Bakery;)I" = l_s16.sam.toString := by decide +kernel
theorem l_D16 : "(IILDoughLedger$Bakery;)I" = l_s16.implDesc.toString := by decide +kernel
theorem l_q16 : decode l_C16 9 = .ok (.invokestatic 26, 3) := by decide +kernel
theorem l_r16 : decode l_C16 (9 + 3) = .ok (.ireturn, 1) := by decide +kernel
theorem l_S17 : "(LDoughLedger$Bakery;)I" = l_s17.sam.toString := by decide +kernel
theorem l_D17 : "(ILDoughLedger$Bakery;)I" = l_s17.implDesc.toString := by decide +kernel
theorem l_q17 : decode l_C17 5 = .ok (.invokestatic 23, 3) := by decide +kernel
theorem l_r17 : decode l_C17 (5 + 3) = .ok (.ireturn, 1) := by decide +kernel
theorem l_S18 : "(LDoughLedger$Bakery;)I" = l_s18.sam.toString := by decide +kernel
theorem l_D18 : "(IILDoughLedger$Bakery;)I" = l_s18.implDesc.toString := by decide +kernel
theorem l_q18 : decode l_C18 9 = .ok (.invokestatic 26, 3) := by decide +kernel
theorem l_r18 : decode l_C18 (9 + 3) = .ok (.ireturn, 1) := by decide +kernel
theorem l_S19 : "(LDoughLedger$Bakery;)I" = l_s19.sam.toString := by decide +kernel
theorem l_D19 : "(CLDoughLedger$Bakery;)I" = l_s19.implDesc.toString := by decide +kernel
theorem l_q19 : decode l_C19 5 = .ok (.invokestatic 23, 3) := by decide +kernel
theorem l_r19 : decode l_C19 (5 + 3) = .ok (.ireturn, 1) := by decide +kernel
theorem l_S20 : "(LDoughLedger$Bakery;)I" = l_s20.sam.toString := by decide +kernel
theorem l_D20 : "(IILDoughLedger$Bakery;)I" = l_s20.implDesc.toString := by decide +kernel
theorem l_q20 : decode l_C20 9 = .ok (.invokestatic 26, 3) := by decide +kernel
theorem l_r20 : decode l_C20 (9 + 3) = .ok (.ireturn, 1) := by decide +kernel
theorem l_S21 : "(LDoughLedger$Bakery;)I" = l_s21.sam.toString := by decide +kernel
theorem l_D21 : "(IILDoughLedger$Bakery;)I" = l_s21.implDesc.toString := by decide +kernel
theorem l_q21 : decode l_C21 9 = .ok (.invokestatic 26, 3) := by decide +kernel
theorem l_r21 : decode l_C21 (9 + 3) = .ok (.ireturn, 1) := by decide +kernel
theorem l_S22 : "(LDoughLedger$Bakery;)I" = l_s22.sam.toString := by decide +kernel
theorem l_D22 : "(ILDoughLedger$Bakery;)I" = l_s22.implDesc.toString := by decide +kernel
theorem l_q22 : decode l_C22 5 = .ok (.invokestatic 23, 3) := by decide +kernel
theorem l_r22 : decode l_C22 (5 + 3) = .ok (.ireturn, 1) := by decide +kernel
theorem l_S23 : "(LDoughLedger$Bakery;)I" = l_s23.sam.toString := by decide +kernel
theorem l_D23 : "(ILDoughLedger$Bakery;)I" = l_s23.implDesc.toString := by decide +kernel
theorem l_q23 : decode l_C23 5 = .ok (.invokestatic 23, 3) := by decide +kernel
theorem l_r23 : decode l_C23 (5 + 3) = .ok (.ireturn, 1) := by decide +kernel
theorem l_S24 : "(LDoughLedger$Bakery;)I" = l_s24.sam.toString := by decide +kernel
theorem l_D24 : "(ILDoughLedger$Bakery;)I" = l_s24.implDesc.toString := by decide +kernel
theorem l_q24 : decode l_C24 5 = .ok (.invokestatic 23, 3) := by decide +kernel
theorem l_r24 : decode l_C24 (5 + 3) = .ok (.ireturn, 1) := by decide +kernel
theorem l_S25 : "(LDoughLedger$Bakery;)I" = l_s25.sam.toString := by decide +kernel
theorem l_D25 : "(ILDoughLedger$Bakery;)I" = l_s25.implDesc.toString := by decide +kernel
theorem l_q25 : decode l_C25 5 = .ok (.invokestatic 23, 3) := by decide +kernel
theorem l_r25 : decode l_C25 (5 + 3) = .ok (.ireturn, 1) := by decide +kernel
theorem l_S26 : "(LDoughLedger$Bakery;)I" = l_s26.sam.toString := by decide +kernel
theorem l_D26 : "(ILDoughLedger$Bakery;)I" = l_s26.implDesc.toString := by decide +kernel
theorem l_q26 : decode l_C26 5 = .ok (.invokestatic 23, 3) := by decide +kernel
theorem l_r26 : decode l_C26 (5 + 3) = .ok (.ireturn, 1) := by decide +kernel
